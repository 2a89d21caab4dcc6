set_option maxRecDepth 100000
def tw_wishOf (σ : ST) (a1 : Int32) (a2 : Int32) (a3 : Int32) (a4 : Int32) (a5 : Int32) (a6 : Int32) : Option (Int32 × ST) :=
  ck ((36 : Int32) + a2) 42 (ck ((10 : Int32) + a1) 42 ((if 0 ≤ (gI σ 0 19) then ck a1 42 (ck (0 : Int32) 8 (st_ (aI σ 0 25 (0 : Int32) (lI σ 0 0 a1)) (fun (σ_2 : ST) => ck (1 : Int32) 8 (st_ (aI σ_2 0 25 (1 : Int32) (lI σ 0 0 ((10 : Int32) + a1))) (fun (σ_4 : ST) => ck (2 : Int32) 8 (st_ (aI σ_4 0 25 (2 : Int32) (lI σ 0 0 ((36 : Int32) + a2))) (fun (σ_6 : ST) => ck (3 : Int32) 8 (st_ (aI σ_6 0 25 (3 : Int32) a3) (fun (σ_8 : ST) => ck (4 : Int32) 8 (st_ (aI σ_8 0 25 (4 : Int32) a4) (fun (σ_10 : ST) => ck (5 : Int32) 8 (st_ (aI σ_10 0 25 (5 : Int32) a5) (fun (σ_12 : ST) => ck (6 : Int32) 8 (st_ (aI σ_12 0 25 (6 : Int32) a1) (fun (σ_14 : ST) => ck (7 : Int32) 8 (st_ (aI σ_14 0 25 (7 : Int32) a6) (fun (σ_16 : ST) => bo2 (tw_workOut σ_16 (0 : Int32) (gI σ_16 0 19)) (fun (r_19 : Int32) (σ_20 : ST) => some (r_19, σ_20))))))))))))))))))) else some ((((((10 : Int32) * a3) + (lI σ 0 0 ((36 : Int32) + a2))) + (lI σ 0 0 ((10 : Int32) + a1))) - ((5 : Int32) * a4)), σ))))
abbrev rm_X3_wishOf : Room := rmf 55 1260
set_option maxHeartbeats 4000000 in
set_option maxRecDepth 100000 in
theorem mt_X3_wishOf (l : Launch) (G : GT) (σ : ST) (a1 : Int32) (a2 : Int32) (a3 : Int32) (a4 : Int32) (a5 : Int32) (a6 : Int32) {r : Int32} {u : ST} (h : tw_wishOf σ a1 a2 a3 a4 a5 a6 = some (r, u)) : CI l tw_ft G yX3_wishOf (ws_ yX3_wishOf cX3_wishOf 9 (some .int)) rm_X3_wishOf 0 0 [.ref (G.2.2.1 0), .int a1, .int a2, .int a3, .int a4, .int a5, .int a6] σ (r, u) := by
  refine m_enterI (by decide) rfl (lv := [(0, .ref (G.2.2.1 0)), (1, .int a1), (2, .int a2), (3, .int a3), (4, .int a4), (5, .int a5), (6, .int a6)]) rfl ?_
  intro p e s m args below meth c H locs ls Q X hret hP hl
  have hx := X.1.1
  have hb := X.1.2.1
  have hown := X.1.2.2.2.1
  have hts := X.1.2.2.2.2
  unfold tw_wishOf at h
  refine lv_aload_n hx hb dX3_wishOf_0 rfl (lv_at hl 0 rfl) ?_
  refine r_geta X hP 0 tw_c0 lk_3 0 (Nat.le_of_ble_eq_true rfl) q1638 tw_f0 dX3_wishOf_1 ?_
  refine lv_bipush (v := (36 : Int32)) hx hb dX3_wishOf_4 (by decide) ?_
  refine lv_iload_n hx hb dX3_wishOf_6 rfl (lv_at hl 2 rfl) ?_
  refine lv_iadd hx hb dX3_wishOf_7 ?_
  refine r_iald X hP 1 tw_c1 (ck_in h) dX3_wishOf_8 ?_
  have h := ck_k h
  refine lv_istore (lv' := [(7, .int (lI σ 0 0 ((36 : Int32) + a2))), (0, .ref (G.2.2.1 0)), (1, .int a1), (2, .int a2), (3, .int a3), (4, .int a4), (5, .int a5), (6, .int a6)]) hx hb dX3_wishOf_9 hl (by decide) rfl (fun ls hl => ?_)
  refine lv_aload_n hx hb dX3_wishOf_11 rfl (lv_at hl 1 rfl) ?_
  refine r_geta X hP 0 tw_c0 lk_3 0 (Nat.le_of_ble_eq_true rfl) q1638 tw_f0 dX3_wishOf_12 ?_
  refine lv_bipush (v := (10 : Int32)) hx hb dX3_wishOf_15 (by decide) ?_
  refine lv_iload_n hx hb dX3_wishOf_17 rfl (lv_at hl 2 rfl) ?_
  refine lv_iadd hx hb dX3_wishOf_18 ?_
  refine r_iald X hP 1 tw_c1 (ck_in h) dX3_wishOf_19 ?_
  have h := ck_k h
  refine lv_istore (lv' := [(8, .int (lI σ 0 0 ((10 : Int32) + a1))), (7, .int (lI σ 0 0 ((36 : Int32) + a2))), (0, .ref (G.2.2.1 0)), (1, .int a1), (2, .int a2), (3, .int a3), (4, .int a4), (5, .int a5), (6, .int a6)]) hx hb dX3_wishOf_20 hl (by decide) rfl (fun ls hl => ?_)
  refine lv_aload_n hx hb dX3_wishOf_22 rfl (lv_at hl 2 rfl) ?_
  refine r_geti X hP 0 tw_c0 lk_3 19 (Nat.le_of_ble_eq_true rfl) q1657 tw_f19 dX3_wishOf_23 ?_
  refine lv_if_ge (tgt := 45) hx hb dX3_wishOf_26 (by decide) (fun c_1 => ?_) (fun c_1 => ?_)
  · have h := it_t h c_1
    refine lv_aload_n hx hb dX3_wishOf_45 rfl (lv_at hl 2 rfl) ?_
    refine r_geta X hP 0 tw_c0 lk_3 25 (Nat.le_of_ble_eq_true rfl) q1663 tw_f25 dX3_wishOf_46 ?_
    refine lv_iconst (v := (0 : Int32)) hx hb dX3_wishOf_49 (by decide) ?_
    refine lv_aload_n hx hb dX3_wishOf_50 rfl (lv_at hl 2 rfl) ?_
    refine r_geta X hP 0 tw_c0 lk_3 0 (Nat.le_of_ble_eq_true rfl) q1638 tw_f0 dX3_wishOf_51 ?_
    refine lv_iload_n hx hb dX3_wishOf_54 rfl (lv_at hl 3 rfl) ?_
    refine r_iald X hP 1 tw_c1 (ck_in h) dX3_wishOf_55 ?_
    have h := ck_k h
    refine r_iast X tw_w hP 11 tw_c11 (ck_in h) dX3_wishOf_56 (fun σ_2 H locs e_3 hP => ?_)
    have h := st_k (ck_k h) e_3
    refine lv_aload_n hx hb dX3_wishOf_57 rfl (lv_at hl 2 rfl) ?_
    refine r_geta X hP 0 tw_c0 lk_3 25 (Nat.le_of_ble_eq_true rfl) q1663 tw_f25 dX3_wishOf_58 ?_
    refine lv_iconst (v := (1 : Int32)) hx hb dX3_wishOf_61 (by decide) ?_
    refine lv_iload hx hb dX3_wishOf_62 (lv_at hl 0 rfl) ?_
    refine r_iast X tw_w hP 11 tw_c11 (ck_in h) dX3_wishOf_64 (fun σ_4 H locs e_5 hP => ?_)
    have h := st_k (ck_k h) e_5
    refine lv_aload_n hx hb dX3_wishOf_65 rfl (lv_at hl 2 rfl) ?_
    refine r_geta X hP 0 tw_c0 lk_3 25 (Nat.le_of_ble_eq_true rfl) q1663 tw_f25 dX3_wishOf_66 ?_
    refine lv_iconst (v := (2 : Int32)) hx hb dX3_wishOf_69 (by decide) ?_
    refine lv_iload hx hb dX3_wishOf_70 (lv_at hl 1 rfl) ?_
    refine r_iast X tw_w hP 11 tw_c11 (ck_in h) dX3_wishOf_72 (fun σ_6 H locs e_7 hP => ?_)
    have h := st_k (ck_k h) e_7
    refine lv_aload_n hx hb dX3_wishOf_73 rfl (lv_at hl 2 rfl) ?_
    refine r_geta X hP 0 tw_c0 lk_3 25 (Nat.le_of_ble_eq_true rfl) q1663 tw_f25 dX3_wishOf_74 ?_
    refine lv_iconst (v := (3 : Int32)) hx hb dX3_wishOf_77 (by decide) ?_
    refine lv_iload_n hx hb dX3_wishOf_78 rfl (lv_at hl 5 rfl) ?_
    refine r_iast X tw_w hP 11 tw_c11 (ck_in h) dX3_wishOf_79 (fun σ_8 H locs e_9 hP => ?_)
    have h := st_k (ck_k h) e_9
    refine lv_aload_n hx hb dX3_wishOf_80 rfl (lv_at hl 2 rfl) ?_
    refine r_geta X hP 0 tw_c0 lk_3 25 (Nat.le_of_ble_eq_true rfl) q1663 tw_f25 dX3_wishOf_81 ?_
    refine lv_iconst (v := (4 : Int32)) hx hb dX3_wishOf_84 (by decide) ?_
    refine lv_iload hx hb dX3_wishOf_85 (lv_at hl 6 rfl) ?_
    refine r_iast X tw_w hP 11 tw_c11 (ck_in h) dX3_wishOf_87 (fun σ_10 H locs e_11 hP => ?_)
    have h := st_k (ck_k h) e_11
    refine lv_aload_n hx hb dX3_wishOf_88 rfl (lv_at hl 2 rfl) ?_
    refine r_geta X hP 0 tw_c0 lk_3 25 (Nat.le_of_ble_eq_true rfl) q1663 tw_f25 dX3_wishOf_89 ?_
    refine lv_iconst (v := (5 : Int32)) hx hb dX3_wishOf_92 (by decide) ?_
    refine lv_iload hx hb dX3_wishOf_93 (lv_at hl 7 rfl) ?_
    refine r_iast X tw_w hP 11 tw_c11 (ck_in h) dX3_wishOf_95 (fun σ_12 H locs e_13 hP => ?_)
    have h := st_k (ck_k h) e_13
    refine lv_aload_n hx hb dX3_wishOf_96 rfl (lv_at hl 2 rfl) ?_
    refine r_geta X hP 0 tw_c0 lk_3 25 (Nat.le_of_ble_eq_true rfl) q1663 tw_f25 dX3_wishOf_97 ?_
    refine lv_bipush (v := (6 : Int32)) hx hb dX3_wishOf_100 (by decide) ?_
    refine lv_iload_n hx hb dX3_wishOf_102 rfl (lv_at hl 3 rfl) ?_
    refine r_iast X tw_w hP 11 tw_c11 (ck_in h) dX3_wishOf_103 (fun σ_14 H locs e_15 hP => ?_)
    have h := st_k (ck_k h) e_15
    refine lv_aload_n hx hb dX3_wishOf_104 rfl (lv_at hl 2 rfl) ?_
    refine r_geta X hP 0 tw_c0 lk_3 25 (Nat.le_of_ble_eq_true rfl) q1663 tw_f25 dX3_wishOf_105 ?_
    refine lv_bipush (v := (7 : Int32)) hx hb dX3_wishOf_108 (by decide) ?_
    refine lv_iload hx hb dX3_wishOf_110 (lv_at hl 8 rfl) ?_
    refine r_iast X tw_w hP 11 tw_c11 (ck_in h) dX3_wishOf_112 (fun σ_16 H locs e_17 hP => ?_)
    have h := st_k (ck_k h) e_17
    refine lv_aload_n hx hb dX3_wishOf_113 rfl (lv_at hl 2 rfl) ?_
    refine lv_iconst (v := (0 : Int32)) hx hb dX3_wishOf_114 (by decide) ?_
    refine lv_aload_n hx hb dX3_wishOf_115 rfl (lv_at hl 2 rfl) ?_
    refine r_geti X hP 0 tw_c0 lk_3 19 (Nat.le_of_ble_eq_true rfl) q1657 tw_f19 dX3_wishOf_116 ?_
    obtain ⟨r_19, σ_20, e_18, h⟩ := bo2_ex h
    refine r_calli (r_runV (rest := []) X hP 0 tw_c0 lk_3 (mt_X3_workOut l G σ_16 (0 : Int32) (gI σ_16 0 19) e_18) (cwV 2 hts (lw_V q1957 q1959 qs55 q113 q1960) rfl rfl rfl ⟨rfl, cdX3_workOut⟩ ⟨Nat.le_of_ble_eq_true rfl, Nat.le_of_ble_eq_true rfl⟩) rfl hl.1 rfl (Nat.le_of_ble_eq_true rfl) dX3_wishOf_119 ⟨Nat.le_refl _, Nat.le_refl _⟩) hP (fun H locs hP => ?_)
    exact hret _ _ _ _ _ _ dX3_wishOf_122 rfl (Option.some.inj h) hP
  · have h := it_f h c_1
    refine lv_bipush (v := (10 : Int32)) hx hb dX3_wishOf_29 (by decide) ?_
    refine lv_iload_n hx hb dX3_wishOf_31 rfl (lv_at hl 5 rfl) ?_
    refine lv_imul hx hb dX3_wishOf_32 ?_
    refine lv_iload hx hb dX3_wishOf_33 (lv_at hl 1 rfl) ?_
    refine lv_iadd hx hb dX3_wishOf_35 ?_
    refine lv_iload hx hb dX3_wishOf_36 (lv_at hl 0 rfl) ?_
    refine lv_iadd hx hb dX3_wishOf_38 ?_
    refine lv_iconst (v := (5 : Int32)) hx hb dX3_wishOf_39 (by decide) ?_
    refine lv_iload hx hb dX3_wishOf_40 (lv_at hl 6 rfl) ?_
    refine lv_imul hx hb dX3_wishOf_42 ?_
    refine lv_isub hx hb dX3_wishOf_43 ?_
    exact hret _ _ _ _ _ _ dX3_wishOf_44 rfl (Option.some.inj h) hP
def tw_oneThing_B15 (l1 : Int32) (rc15 : Int32 → ST → Option (ST)) (w2 : Int32) (σ : ST) : Option (ST) :=
  (if (gI σ 0 6) ≤ w2 then some (σ) else ck w2 10 (st_ (aI σ 0 32 w2 (0 : Int32)) (fun (σ_5 : ST) => (rc15 (w2 + (1 : Int32)) σ_5))))
def tw_oneThing_B65 (l1 : Int32) (rc65 : Int32 → ST → Option (ST)) (w3 : Int32) (σ : ST) : Option (ST) :=
  (if (gI σ 0 6) ≤ w3 then some (σ) else bo (tw_isThere σ w3) (fun (r_16 : Int32) => bo2 (if r_16 = 0 then some ((0 : Int32), σ) else bo (tw_unsaid σ w3 l1) (fun (r_25 : Int32) => ck w3 10 (ck l1 6 (bo (if w3 = (gI σ 0 31) then some ((1 : Int32)) else some ((0 : Int32))) (fun (x_26 : Int32) => bo2 (tw_wishOf σ w3 l1 r_25 (lI σ 0 32 w3) (lI σ 0 37 l1) x_26) (fun (r_30 : Int32) (σ_31 : ST) => some (r_30, σ_31))))))) (fun (x_17 : Int32) (σ_18 : ST) => ck w3 10 (st_ (aI σ_18 0 33 w3 x_17) (fun (σ_21 : ST) => (rc65 (w3 + (1 : Int32)) σ_21))))))
def tw_oneThing_B38 (l1 : Int32) (rc38 : Int32 → ST → Option (ST)) (w2 : Int32) (σ : ST) : Option (ST) :=
  (if w2 = 0 then some (σ) else ck l1 6 ((if (60 : Int32) ≤ (lI σ 0 37 l1) then some (σ) else (if (200 : Int32) ≤ (gI σ 0 30) then some (σ) else bo (wl2 (tw_oneThing_B65 l1) FU (0 : Int32) σ) (fun (σ_34 : ST) => bo (tw_nextSpeaker σ_34) (fun (r_38 : Int32) => bo (if r_38 < 0 then some ((0 : Int32)) else some ((1 : Int32))) (fun (x_39 : Int32) => bo (if x_39 = 0 then some (σ_34) else bo (tw_speaks σ_34 r_38 l1) (fun (σ_47 : ST) => some (σ_47))) (fun (σ_42 : ST) => (rc38 x_39 σ_42)))))))))
def tw_oneThing (σ : ST) (a1 : Int32) : Option ST :=
  bo (if (gI σ 0 26) = (5 : Int32) then bo (tw_putsPaper σ a1) (fun (σ_131 : ST) => some (σ_131)) else some (σ)) (fun (σ_1 : ST) => bo (wl2 (tw_oneThing_B15 a1) FU (0 : Int32) σ_1) (fun (σ_8 : ST) => bo (wl2 (tw_oneThing_B38 a1) FU (1 : Int32) σ_8) (fun (σ_73 : ST) => some σ_73)))
abbrev rm_X3_oneThing : Room := rmf 56 1288
set_option maxHeartbeats 4000000 in
set_option maxRecDepth 100000 in
theorem mt_X3_oneThing (l : Launch) (G : GT) (σ : ST) (a1 : Int32) {u : ST} (h : tw_oneThing σ a1 = some u) : CV l tw_ft G yX3_oneThing (ws_ yX3_oneThing cX3_oneThing 4 none) rm_X3_oneThing 0 0 [.ref (G.2.2.1 0), .int a1] σ u := by
  refine m_enterV (by decide) rfl (lv := [(0, .ref (G.2.2.1 0)), (1, .int a1)]) rfl ?_
  intro p e s m args below meth c H locs ls Q X hnm hret hP hl
  have hx := X.1.1
  have hb := X.1.2.1
  have hown := X.1.2.2.2.1
  have hts := X.1.2.2.2.2
  unfold tw_oneThing at h
  refine lv_aload_n hx hb dX3_oneThing_0 rfl (lv_at hl 0 rfl) ?_
  refine r_geti X hP 0 tw_c0 lk_3 26 (Nat.le_of_ble_eq_true rfl) q1664 tw_f26 dX3_oneThing_1 ?_
  refine lv_iconst (v := (5 : Int32)) hx hb dX3_oneThing_4 (by decide) ?_
  obtain ⟨σ_1, h_2, h⟩ := bo_ex h
  have hJ_3 : ∀ (H : Heap) (locs : List Loc) (ls : Array Slot), PS tw_ft G s σ_1 H locs → lv_has ls 4 [(0, .ref (G.2.2.1 0)), (1, .int a1)] → W p l e rm_X3_oneThing s m args below meth c H locs 0 0 Q (F0 m 13 ls []) := by
    intro H locs ls hP hl
    refine lv_iconst (v := (0 : Int32)) hx hb dX3_oneThing_13 (by decide) ?_
    refine lv_istore_n (lv' := [(2, .int (0 : Int32)), (0, .ref (G.2.2.1 0)), (1, .int a1)]) hx hb dX3_oneThing_14 rfl hl (by decide) rfl (fun ls hl => ?_)
    obtain ⟨σ_8, h_9, h⟩ := bo_ex h
    have hE_10 : ∀ (H : Heap) (locs : List Loc) (ls : Array Slot), PS tw_ft G s σ_8 H locs → lv_has ls 4 [(0, .ref (G.2.2.1 0)), (1, .int a1)] → W p l e rm_X3_oneThing s m args below meth c H locs 0 0 Q (F0 m 36 ls []) := by
      intro H locs ls hP hl
      refine lv_iconst (v := (1 : Int32)) hx hb dX3_oneThing_36 (by decide) ?_
      refine lv_istore_n (lv' := [(2, .int (1 : Int32)), (0, .ref (G.2.2.1 0)), (1, .int a1)]) hx hb dX3_oneThing_37 rfl hl (by decide) rfl (fun ls hl => ?_)
      obtain ⟨σ_73, h_74, h⟩ := bo_ex h
      have hE_75 : ∀ (H : Heap) (locs : List Loc) (ls : Array Slot), PS tw_ft G s σ_73 H locs → lv_has ls 4 [] → W p l e rm_X3_oneThing s m args below meth c H locs 0 0 Q (F0 m 162 ls []) := by
        intro H locs ls hP hl
        exact hret _ _ _ _ _ dX3_oneThing_162 (Option.some.inj h) hP
      have hL_72 : ∀ (n : Nat) (w_76 : Int32) (σ_77 : ST) (H : Heap) (locs : List Loc) (ls : Array Slot), wl2 (tw_oneThing_B38 a1) n w_76 σ_77 = some σ_73 → PS tw_ft G s σ_77 H locs → lv_has ls 4 [(0, .ref (G.2.2.1 0)), (1, .int a1), (2, .int w_76)] → W p l e rm_X3_oneThing s m args below meth c H locs 0 0 Q (F0 m 38 ls []) := by
        intro n
        induction n with
        | zero => intro w_76 σ_77 H locs ls h_78; cases h_78
        | succ n ih =>
          intro w_76 σ_77 H locs ls h_78 hP hl
          have h_78 : tw_oneThing_B38 a1 (wl2 (tw_oneThing_B38 a1) n) w_76 σ_77 = some _ := h_78
          generalize wl2 (tw_oneThing_B38 a1) n = rc_79 at h_78 ih
          unfold tw_oneThing_B38 at h_78
          refine lv_iload_n hx hb dX3_oneThing_38 rfl (lv_at hl 2 rfl) ?_
          refine lv_if_eq (tgt := 162) hx hb dX3_oneThing_39 (by decide) (fun c_80 => ?_) (fun c_80 => ?_)
          · have h_78 := it_t h_78 c_80
            obtain rfl := Option.some.inj h_78
            exact hE_75 _ _ _ hP (lv_sub hl [] rfl)
          · have h_78 := it_f h_78 c_80
            refine lv_aload_n hx hb dX3_oneThing_42 rfl (lv_at hl 0 rfl) ?_
            refine r_geta X hP 0 tw_c0 lk_3 37 (Nat.le_of_ble_eq_true rfl) q1675 tw_f37 dX3_oneThing_43 ?_
            refine lv_iload_n hx hb dX3_oneThing_46 rfl (lv_at hl 1 rfl) ?_
            refine r_iald X hP 17 tw_c17 (ck_in h_78) dX3_oneThing_47 ?_
            have h_78 := ck_k h_78
            refine lv_bipush (v := (60 : Int32)) hx hb dX3_oneThing_48 (by decide) ?_
            refine lv_icmp_ge (tgt := 162) hx hb dX3_oneThing_50 (by decide) (fun c_81 => ?_) (fun c_81 => ?_)
            · have h_78 := it_t h_78 c_81
              obtain rfl := Option.some.inj h_78
              exact hE_75 _ _ _ hP (lv_sub hl [] rfl)
            · have h_78 := it_f h_78 c_81
              refine lv_aload_n hx hb dX3_oneThing_53 rfl (lv_at hl 0 rfl) ?_
              refine r_geti X hP 0 tw_c0 lk_3 30 (Nat.le_of_ble_eq_true rfl) q1668 tw_f30 dX3_oneThing_54 ?_
              refine lv_sipush (v := (200 : Int32)) hx hb dX3_oneThing_57 (by decide) ?_
              refine lv_icmp_ge (tgt := 162) hx hb dX3_oneThing_60 (by decide) (fun c_82 => ?_) (fun c_82 => ?_)
              · have h_78 := it_t h_78 c_82
                obtain rfl := Option.some.inj h_78
                exact hE_75 _ _ _ hP (lv_sub hl [] rfl)
              · have h_78 := it_f h_78 c_82
                refine lv_iconst (v := (0 : Int32)) hx hb dX3_oneThing_63 (by decide) ?_
                refine lv_istore_n (lv' := [(3, .int (0 : Int32)), (0, .ref (G.2.2.1 0)), (1, .int a1), (2, .int w_76)]) hx hb dX3_oneThing_64 rfl hl (by decide) rfl (fun ls hl => ?_)
                obtain ⟨σ_84, h_85, h_78⟩ := bo_ex h_78
                have hE_86 : ∀ (H : Heap) (locs : List Loc) (ls : Array Slot), PS tw_ft G s σ_84 H locs → lv_has ls 4 [(0, .ref (G.2.2.1 0)), (1, .int a1)] → W p l e rm_X3_oneThing s m args below meth c H locs 0 0 Q (F0 m 134 ls []) := by
                  intro H locs ls hP hl
                  refine lv_aload_n hx hb dX3_oneThing_134 rfl (lv_at hl 0 rfl) ?_
                  obtain ⟨r_88, e_87, h_78⟩ := bo_ex h_78
                  refine r_calli (r_runV (rest := []) X hP 0 tw_c0 lk_3 (mt_X3_nextSpeaker l G σ_84 e_87) (cwV 0 hts (lw_V q2048 q2050 qs76 q113 q2051) rfl rfl rfl ⟨rfl, cdX3_nextSpeaker⟩ ⟨Nat.le_of_ble_eq_true rfl, Nat.le_of_ble_eq_true rfl⟩) rfl hl.1 rfl (Nat.le_of_ble_eq_true rfl) dX3_oneThing_135 ⟨Nat.le_refl _, Nat.le_refl _⟩) hP (fun H locs hP => ?_)
                  refine lv_istore_n (lv' := [(3, .int r_88), (0, .ref (G.2.2.1 0)), (1, .int a1)]) hx hb dX3_oneThing_138 rfl hl (by decide) rfl (fun ls hl => ?_)
                  refine lv_iload_n hx hb dX3_oneThing_139 rfl (lv_at hl 0 rfl) ?_
                  obtain ⟨x_89, h_90, h_78⟩ := bo_ex h_78
                  have hJ_91 : ∀ (H : Heap) (locs : List Loc) (ls : Array Slot), PS tw_ft G s σ_84 H locs → lv_has ls 4 [(0, .ref (G.2.2.1 0)), (1, .int a1), (3, .int r_88)] → W p l e rm_X3_oneThing s m args below meth c H locs 0 0 Q (F0 m 148 ls [.int x_89]) := by
                    intro H locs ls hP hl
                    refine lv_istore_n (lv' := [(2, .int x_89), (0, .ref (G.2.2.1 0)), (1, .int a1), (3, .int r_88)]) hx hb dX3_oneThing_148 rfl hl (by decide) rfl (fun ls hl => ?_)
                    refine lv_iload_n hx hb dX3_oneThing_149 rfl (lv_at hl 0 rfl) ?_
                    obtain ⟨σ_92, h_93, h_78⟩ := bo_ex h_78
                    have hJ_94 : ∀ (H : Heap) (locs : List Loc) (ls : Array Slot), PS tw_ft G s σ_92 H locs → lv_has ls 4 [(0, .ref (G.2.2.1 0)), (1, .int a1), (2, .int x_89)] → W p l e rm_X3_oneThing s m args below meth c H locs 0 0 Q (F0 m 159 ls []) := by
                      intro H locs ls hP hl
                      refine lv_goto (tgt := 38) hx hb dX3_oneThing_159 (by decide) ?_
                      exact ih _ _ _ _ _ h_78 hP (lv_sub hl [0, 1, 2] rfl)
                    refine lv_if_eq (tgt := 159) hx hb dX3_oneThing_150 (by decide) (fun c_95 => ?_) (fun c_95 => ?_)
                    · have h_93 := it_t h_93 c_95
                      obtain rfl := Option.some.inj h_93
                      exact hJ_94 _ _ _ hP (lv_sub hl [1, 2, 0] rfl)
                    · have h_93 := it_f h_93 c_95
                      refine lv_aload_n hx hb dX3_oneThing_153 rfl (lv_at hl 1 rfl) ?_
                      refine lv_iload_n hx hb dX3_oneThing_154 rfl (lv_at hl 3 rfl) ?_
                      refine lv_iload_n hx hb dX3_oneThing_155 rfl (lv_at hl 2 rfl) ?_
                      obtain ⟨σ_97, e_96, h_93⟩ := bo_ex h_93
                      refine r_callv (r_runV (rest := []) X hP 0 tw_c0 lk_3 (mt_X3_speaks l G σ_84 r_88 a1 e_96) (cwV 2 hts (lw_V q2072 q2074 qs82 q113 q2075) rfl rfl rfl ⟨rfl, cdX3_speaks⟩ ⟨Nat.le_of_ble_eq_true rfl, Nat.le_of_ble_eq_true rfl⟩) rfl hl.1 rfl (Nat.le_of_ble_eq_true rfl) dX3_oneThing_156 ⟨Nat.le_refl _, Nat.le_refl _⟩) hP (fun H locs hP => ?_)
                      obtain rfl := Option.some.inj h_93
                      exact hJ_94 _ _ _ hP (lv_sub hl [1, 2, 0] rfl)
                  refine lv_if_lt (tgt := 147) hx hb dX3_oneThing_140 (by decide) (fun c_98 => ?_) (fun c_98 => ?_)
                  · have h_90 := it_t h_90 c_98
                    refine lv_iconst (v := (0 : Int32)) hx hb dX3_oneThing_147 (by decide) ?_
                    obtain rfl := Option.some.inj h_90
                    exact hJ_91 _ _ _ hP (lv_sub hl [1, 2, 0] rfl)
                  · have h_90 := it_f h_90 c_98
                    refine lv_iconst (v := (1 : Int32)) hx hb dX3_oneThing_143 (by decide) ?_
                    refine lv_goto (tgt := 148) hx hb dX3_oneThing_144 (by decide) ?_
                    obtain rfl := Option.some.inj h_90
                    exact hJ_91 _ _ _ hP (lv_sub hl [1, 2, 0] rfl)
                have hL_83 : ∀ (n : Nat) (w_99 : Int32) (σ_100 : ST) (H : Heap) (locs : List Loc) (ls : Array Slot), wl2 (tw_oneThing_B65 a1) n w_99 σ_100 = some σ_84 → PS tw_ft G s σ_100 H locs → lv_has ls 4 [(0, .ref (G.2.2.1 0)), (1, .int a1), (3, .int w_99)] → W p l e rm_X3_oneThing s m args below meth c H locs 0 0 Q (F0 m 65 ls []) := by
                  intro n
                  induction n with
                  | zero => intro w_99 σ_100 H locs ls h_101; cases h_101
                  | succ n ih =>
                    intro w_99 σ_100 H locs ls h_101 hP hl
                    have h_101 : tw_oneThing_B65 a1 (wl2 (tw_oneThing_B65 a1) n) w_99 σ_100 = some _ := h_101
                    generalize wl2 (tw_oneThing_B65 a1) n = rc_102 at h_101 ih
                    unfold tw_oneThing_B65 at h_101
                    refine lv_iload_n hx hb dX3_oneThing_65 rfl (lv_at hl 2 rfl) ?_
                    refine lv_aload_n hx hb dX3_oneThing_66 rfl (lv_at hl 0 rfl) ?_
                    refine r_geti X hP 0 tw_c0 lk_3 6 (Nat.le_of_ble_eq_true rfl) q1644 tw_f6 dX3_oneThing_67 ?_
                    refine lv_icmp_ge (tgt := 134) hx hb dX3_oneThing_70 (by decide) (fun c_103 => ?_) (fun c_103 => ?_)
                    · have h_101 := it_t h_101 c_103
                      obtain rfl := Option.some.inj h_101
                      exact hE_86 _ _ _ hP (lv_sub hl [0, 1] rfl)
                    · have h_101 := it_f h_101 c_103
                      refine lv_aload_n hx hb dX3_oneThing_73 rfl (lv_at hl 0 rfl) ?_
                      refine r_geta X hP 0 tw_c0 lk_3 33 (Nat.le_of_ble_eq_true rfl) q1671 tw_f33 dX3_oneThing_74 ?_
                      refine lv_iload_n hx hb dX3_oneThing_77 rfl (lv_at hl 2 rfl) ?_
                      refine lv_aload_n hx hb dX3_oneThing_78 rfl (lv_at hl 0 rfl) ?_
                      refine lv_iload_n hx hb dX3_oneThing_79 rfl (lv_at hl 2 rfl) ?_
                      obtain ⟨r_105, e_104, h_101⟩ := bo_ex h_101
                      refine r_calli (r_runV (rest := [.int w_99, .ref (G.2.2.1 13)]) X hP 0 tw_c0 lk_3 (mt_X3_isThere l G σ_100 w_99 e_104) (cwV 1 hts (lw_V q2032 q2034 qs72 q113 q2035) rfl rfl rfl ⟨rfl, cdX3_isThere⟩ ⟨Nat.le_of_ble_eq_true rfl, Nat.le_of_ble_eq_true rfl⟩) rfl hl.1 rfl (Nat.le_of_ble_eq_true rfl) dX3_oneThing_80 ⟨Nat.le_refl _, Nat.le_refl _⟩) hP (fun H locs hP => ?_)
                      obtain ⟨x_106, σ_107, h_108, h_101⟩ := bo2_ex h_101
                      have hJ_109 : ∀ (H : Heap) (locs : List Loc) (ls : Array Slot), PS tw_ft G s σ_107 H locs → lv_has ls 4 [(0, .ref (G.2.2.1 0)), (1, .int a1), (3, .int w_99)] → W p l e rm_X3_oneThing s m args below meth c H locs 0 0 Q (F0 m 127 ls [.int x_106, .int w_99, .ref (G.2.2.1 13)]) := by
                        intro H locs ls hP hl
                        refine r_iast X tw_w hP 13 tw_c13 (ck_in h_101) dX3_oneThing_127 (fun σ_110 H locs e_111 hP => ?_)
                        have h_101 := st_k (ck_k h_101) e_111
                        refine lv_iinc (v := (w_99 + (1 : Int32))) (lv' := [(3, .int (w_99 + (1 : Int32))), (0, .ref (G.2.2.1 0)), (1, .int a1)]) hx hb dX3_oneThing_128 hl (k := 2) rfl rfl (by decide) rfl (fun ls hl => ?_)
                        refine lv_goto (tgt := 65) hx hb dX3_oneThing_131 (by decide) ?_
                        exact ih _ _ _ _ _ h_101 hP (lv_sub hl [1, 2, 0] rfl)
                      refine lv_if_eq (tgt := 126) hx hb dX3_oneThing_83 (by decide) (fun c_112 => ?_) (fun c_112 => ?_)
                      · have h_108 := it_t h_108 c_112
                        refine lv_iconst (v := (0 : Int32)) hx hb dX3_oneThing_126 (by decide) ?_
                        obtain ⟨rfl, rfl⟩ := so2 h_108
                        exact hJ_109 _ _ _ hP (lv_sub hl [0, 1, 2] rfl)
                      · have h_108 := it_f h_108 c_112
                        refine lv_aload_n hx hb dX3_oneThing_86 rfl (lv_at hl 0 rfl) ?_
                        refine lv_iload_n hx hb dX3_oneThing_87 rfl (lv_at hl 2 rfl) ?_
                        refine lv_iload_n hx hb dX3_oneThing_88 rfl (lv_at hl 1 rfl) ?_
                        refine lv_aload_n hx hb dX3_oneThing_89 rfl (lv_at hl 0 rfl) ?_
                        refine lv_iload_n hx hb dX3_oneThing_90 rfl (lv_at hl 2 rfl) ?_
                        refine lv_iload_n hx hb dX3_oneThing_91 rfl (lv_at hl 1 rfl) ?_
                        obtain ⟨r_114, e_113, h_108⟩ := bo_ex h_108
                        refine r_calli (r_runV (rest := [.int a1, .int w_99, .ref (G.2.2.1 0), .int w_99, .ref (G.2.2.1 13)]) X hP 0 tw_c0 lk_3 (mt_X3_unsaid l G σ_100 w_99 a1 e_113) (cwV 2 hts (lw_V q2040 q2042 qs74 q113 q2043) rfl rfl rfl ⟨rfl, cdX3_unsaid⟩ ⟨Nat.le_of_ble_eq_true rfl, Nat.le_of_ble_eq_true rfl⟩) rfl hl.1 rfl (Nat.le_of_ble_eq_true rfl) dX3_oneThing_92 ⟨Nat.le_refl _, Nat.le_refl _⟩) hP (fun H locs hP => ?_)
                        refine lv_aload_n hx hb dX3_oneThing_95 rfl (lv_at hl 0 rfl) ?_
                        refine r_geta X hP 0 tw_c0 lk_3 32 (Nat.le_of_ble_eq_true rfl) q1670 tw_f32 dX3_oneThing_96 ?_
                        refine lv_iload_n hx hb dX3_oneThing_99 rfl (lv_at hl 2 rfl) ?_
                        refine r_iald X hP 12 tw_c12 (ck_in h_108) dX3_oneThing_100 ?_
                        have h_108 := ck_k h_108
                        refine lv_aload_n hx hb dX3_oneThing_101 rfl (lv_at hl 0 rfl) ?_
                        refine r_geta X hP 0 tw_c0 lk_3 37 (Nat.le_of_ble_eq_true rfl) q1675 tw_f37 dX3_oneThing_102 ?_
                        refine lv_iload_n hx hb dX3_oneThing_105 rfl (lv_at hl 1 rfl) ?_
                        refine r_iald X hP 17 tw_c17 (ck_in h_108) dX3_oneThing_106 ?_
                        have h_108 := ck_k h_108
                        refine lv_iload_n hx hb dX3_oneThing_107 rfl (lv_at hl 2 rfl) ?_
                        refine lv_aload_n hx hb dX3_oneThing_108 rfl (lv_at hl 0 rfl) ?_
                        refine r_geti X hP 0 tw_c0 lk_3 31 (Nat.le_of_ble_eq_true rfl) q1669 tw_f31 dX3_oneThing_109 ?_
                        obtain ⟨x_115, h_116, h_108⟩ := bo_ex h_108
                        have hJ_117 : ∀ (H : Heap) (locs : List Loc) (ls : Array Slot), PS tw_ft G s σ_100 H locs → lv_has ls 4 [(0, .ref (G.2.2.1 0)), (1, .int a1), (3, .int w_99)] → W p l e rm_X3_oneThing s m args below meth c H locs 0 0 Q (F0 m 120 ls [.int x_115, .int (lI σ_100 0 37 a1), .int (lI σ_100 0 32 w_99), .int r_114, .int a1, .int w_99, .ref (G.2.2.1 0), .int w_99, .ref (G.2.2.1 13)]) := by
                          intro H locs ls hP hl
                          obtain ⟨r_119, σ_120, e_118, h_108⟩ := bo2_ex h_108
                          refine r_calli (r_runV (rest := [.int w_99, .ref (G.2.2.1 13)]) X hP 0 tw_c0 lk_3 (mt_X3_wishOf l G σ_100 w_99 a1 r_114 (lI σ_100 0 32 w_99) (lI σ_100 0 37 a1) x_115 e_118) (cwV 6 hts (lw_V q2044 q2046 qs75 q113 q2047) rfl rfl rfl ⟨rfl, cdX3_wishOf⟩ ⟨Nat.le_of_ble_eq_true rfl, Nat.le_of_ble_eq_true rfl⟩) rfl hl.1 rfl (Nat.le_of_ble_eq_true rfl) dX3_oneThing_120 ⟨Nat.le_refl _, Nat.le_refl _⟩) hP (fun H locs hP => ?_)
                          refine lv_goto (tgt := 127) hx hb dX3_oneThing_123 (by decide) ?_
                          obtain ⟨rfl, rfl⟩ := so2 h_108
                          exact hJ_109 _ _ _ hP (lv_sub hl [0, 1, 2] rfl)
                        refine lv_icmp_ne (tgt := 119) hx hb dX3_oneThing_112 (by decide) (fun c_121 => ?_) (fun c_121 => ?_)
                        · have h_116 := it_f h_116 c_121
                          refine lv_iconst (v := (0 : Int32)) hx hb dX3_oneThing_119 (by decide) ?_
                          obtain rfl := Option.some.inj h_116
                          exact hJ_117 _ _ _ hP (lv_sub hl [0, 1, 2] rfl)
                        · have h_116 := it_t h_116 c_121
                          refine lv_iconst (v := (1 : Int32)) hx hb dX3_oneThing_115 (by decide) ?_
                          refine lv_goto (tgt := 120) hx hb dX3_oneThing_116 (by decide) ?_
                          obtain rfl := Option.some.inj h_116
                          exact hJ_117 _ _ _ hP (lv_sub hl [0, 1, 2] rfl)
                exact hL_83 _ _ _ _ _ _ h_85 hP (lv_sub hl [1, 2, 0] rfl)
      exact hL_72 _ _ _ _ _ _ h_74 hP (lv_sub hl [1, 2, 0] rfl)
    have hL_7 : ∀ (n : Nat) (w_122 : Int32) (σ_123 : ST) (H : Heap) (locs : List Loc) (ls : Array Slot), wl2 (tw_oneThing_B15 a1) n w_122 σ_123 = some σ_8 → PS tw_ft G s σ_123 H locs → lv_has ls 4 [(0, .ref (G.2.2.1 0)), (1, .int a1), (2, .int w_122)] → W p l e rm_X3_oneThing s m args below meth c H locs 0 0 Q (F0 m 15 ls []) := by
      intro n
      induction n with
      | zero => intro w_122 σ_123 H locs ls h_124; cases h_124
      | succ n ih =>
        intro w_122 σ_123 H locs ls h_124 hP hl
        have h_124 : tw_oneThing_B15 a1 (wl2 (tw_oneThing_B15 a1) n) w_122 σ_123 = some _ := h_124
        generalize wl2 (tw_oneThing_B15 a1) n = rc_125 at h_124 ih
        unfold tw_oneThing_B15 at h_124
        refine lv_iload_n hx hb dX3_oneThing_15 rfl (lv_at hl 2 rfl) ?_
        refine lv_aload_n hx hb dX3_oneThing_16 rfl (lv_at hl 0 rfl) ?_
        refine r_geti X hP 0 tw_c0 lk_3 6 (Nat.le_of_ble_eq_true rfl) q1644 tw_f6 dX3_oneThing_17 ?_
        refine lv_icmp_ge (tgt := 36) hx hb dX3_oneThing_20 (by decide) (fun c_126 => ?_) (fun c_126 => ?_)
        · have h_124 := it_t h_124 c_126
          obtain rfl := Option.some.inj h_124
          exact hE_10 _ _ _ hP (lv_sub hl [0, 1] rfl)
        · have h_124 := it_f h_124 c_126
          refine lv_aload_n hx hb dX3_oneThing_23 rfl (lv_at hl 0 rfl) ?_
          refine r_geta X hP 0 tw_c0 lk_3 32 (Nat.le_of_ble_eq_true rfl) q1670 tw_f32 dX3_oneThing_24 ?_
          refine lv_iload_n hx hb dX3_oneThing_27 rfl (lv_at hl 2 rfl) ?_
          refine lv_iconst (v := (0 : Int32)) hx hb dX3_oneThing_28 (by decide) ?_
          refine r_iast X tw_w hP 12 tw_c12 (ck_in h_124) dX3_oneThing_29 (fun σ_127 H locs e_128 hP => ?_)
          have h_124 := st_k (ck_k h_124) e_128
          refine lv_iinc (v := (w_122 + (1 : Int32))) (lv' := [(2, .int (w_122 + (1 : Int32))), (0, .ref (G.2.2.1 0)), (1, .int a1)]) hx hb dX3_oneThing_30 hl (k := 2) rfl rfl (by decide) rfl (fun ls hl => ?_)
          refine lv_goto (tgt := 15) hx hb dX3_oneThing_33 (by decide) ?_
          exact ih _ _ _ _ _ h_124 hP (lv_sub hl [1, 2, 0] rfl)
    exact hL_7 _ _ _ _ _ _ h_9 hP (lv_sub hl [1, 2, 0] rfl)
  refine lv_icmp_ne (tgt := 13) hx hb dX3_oneThing_5 (by decide) (fun c_129 => ?_) (fun c_129 => ?_)
  · have h_2 := it_f h_2 c_129
    obtain rfl := Option.some.inj h_2
    exact hJ_3 _ _ _ hP (lv_sub hl [0, 1] rfl)
  · have h_2 := it_t h_2 c_129
    refine lv_aload_n hx hb dX3_oneThing_8 rfl (lv_at hl 0 rfl) ?_
    refine lv_iload_n hx hb dX3_oneThing_9 rfl (lv_at hl 1 rfl) ?_
    obtain ⟨σ_131, e_130, h_2⟩ := bo_ex h_2
    refine r_callv (r_runV (rest := []) X hP 0 tw_c0 lk_3 (mt_X3_putsPaper l G σ a1 e_130) (cwV 1 hts (lw_V q2024 q2026 qs70 q113 q2027) rfl rfl rfl ⟨rfl, cdX3_putsPaper⟩ ⟨Nat.le_of_ble_eq_true rfl, Nat.le_of_ble_eq_true rfl⟩) rfl hl.1 rfl (Nat.le_of_ble_eq_true rfl) dX3_oneThing_10 ⟨Nat.le_refl _, Nat.le_refl _⟩) hP (fun H locs hP => ?_)
    obtain rfl := Option.some.inj h_2
    exact hJ_3 _ _ _ hP (lv_sub hl [0, 1] rfl)
def tw_meets_B17 (rc17 : Int32 → ST → Option (ST)) (w1 : Int32) (σ : ST) : Option (ST) :=
  (if (gI σ 0 6) ≤ w1 then some (σ) else ck w1 10 (st_ (aI σ 0 34 w1 (-2 : Int32)) (fun (σ_8 : ST) => (rc17 (w1 + (1 : Int32)) σ_8))))
def tw_meets_B41 (rc41 : Int32 → ST → Option (ST)) (w1 : Int32) (σ : ST) : Option (ST) :=
  (if (gI σ 0 9) ≤ w1 then some (σ) else ck w1 20 (st_ (aI σ 0 35 w1 (-2 : Int32)) (fun (σ_15 : ST) => ck w1 20 (st_ (aI σ_15 0 36 w1 (-2 : Int32)) (fun (σ_17 : ST) => (rc41 (w1 + (1 : Int32)) σ_17))))))
def tw_meets_B73 (rc73 : Int32 → ST → Option (ST)) (w1 : Int32) (σ : ST) : Option (ST) :=
  (if (gI σ 0 8) ≤ w1 then some (σ) else ck w1 6 (st_ (aI σ 0 37 w1 (0 : Int32)) (fun (σ_24 : ST) => (rc73 (w1 + (1 : Int32)) σ_24))))
def tw_meets_B96 (rc96 : Int32 → ST → Option (ST)) (w1 : Int32) (σ : ST) : Option (ST) :=
  (if (gI σ 0 8) ≤ w1 then some (σ) else ck w1 6 (bo (tw_oneThing σ (lI σ 0 38 w1)) (fun (σ_32 : ST) => (rc96 (w1 + (1 : Int32)) σ_32))))
def tw_meets (σ : ST)  : Option ST :=
  st_ (pI σ 0 29 (0 : Int32)) (fun (σ_1 : ST) => st_ (pI σ_1 0 30 (0 : Int32)) (fun (σ_3 : ST) => st_ (pI σ_3 0 31 (-1 : Int32)) (fun (σ_5 : ST) => bo (wl2 (tw_meets_B17 ) FU (0 : Int32) σ_5) (fun (σ_11 : ST) => bo (wl2 (tw_meets_B41 ) FU (0 : Int32) σ_11) (fun (σ_20 : ST) => bo (wl2 (tw_meets_B73 ) FU (0 : Int32) σ_20) (fun (σ_27 : ST) => bo (wl2 (tw_meets_B96 ) FU (0 : Int32) σ_27) (fun (σ_34 : ST) => some σ_34)))))))
abbrev rm_X3_meets : Room := rmf 57 1311
set_option maxHeartbeats 4000000 in
set_option maxRecDepth 100000 in
theorem mt_X3_meets (l : Launch) (G : GT) (σ : ST)  {u : ST} (h : tw_meets σ = some u) : CV l tw_ft G yX3_meets (ws_ yX3_meets cX3_meets 2 none) rm_X3_meets 0 0 [.ref (G.2.2.1 0)] σ u := by
  refine m_enterV (by decide) rfl (lv := [(0, .ref (G.2.2.1 0))]) rfl ?_
  intro p e s m args below meth c H locs ls Q X hnm hret hP hl
  have hx := X.1.1
  have hb := X.1.2.1
  have hown := X.1.2.2.2.1
  have hts := X.1.2.2.2.2
  unfold tw_meets at h
  refine lv_aload_n hx hb dX3_meets_0 rfl (lv_at hl 0 rfl) ?_
  refine lv_iconst (v := (0 : Int32)) hx hb dX3_meets_1 (by decide) ?_
  refine r_puti X tw_w hP 0 tw_c0 lk_3 29 (Nat.le_of_ble_eq_true rfl) q1667 tw_f29 rfl (tyX3_ok 29 (by decide)) rfl rfl dX3_meets_2 (fun σ_1 H locs e_2 hP => ?_)
  have h := st_k h e_2
  refine lv_aload_n hx hb dX3_meets_5 rfl (lv_at hl 0 rfl) ?_
  refine lv_iconst (v := (0 : Int32)) hx hb dX3_meets_6 (by decide) ?_
  refine r_puti X tw_w hP 0 tw_c0 lk_3 30 (Nat.le_of_ble_eq_true rfl) q1668 tw_f30 rfl (tyX3_ok 30 (by decide)) rfl rfl dX3_meets_7 (fun σ_3 H locs e_4 hP => ?_)
  have h := st_k h e_4
  refine lv_aload_n hx hb dX3_meets_10 rfl (lv_at hl 0 rfl) ?_
  refine lv_iconst (v := (-1 : Int32)) hx hb dX3_meets_11 (by decide) ?_
  refine r_puti X tw_w hP 0 tw_c0 lk_3 31 (Nat.le_of_ble_eq_true rfl) q1669 tw_f31 rfl (tyX3_ok 31 (by decide)) rfl rfl dX3_meets_12 (fun σ_5 H locs e_6 hP => ?_)
  have h := st_k h e_6
  refine lv_iconst (v := (0 : Int32)) hx hb dX3_meets_15 (by decide) ?_
  refine lv_istore_n (lv' := [(1, .int (0 : Int32)), (0, .ref (G.2.2.1 0))]) hx hb dX3_meets_16 rfl hl (by decide) rfl (fun ls hl => ?_)
  obtain ⟨σ_11, h_12, h⟩ := bo_ex h
  have hE_13 : ∀ (H : Heap) (locs : List Loc) (ls : Array Slot), PS tw_ft G s σ_11 H locs → lv_has ls 2 [(0, .ref (G.2.2.1 0))] → W p l e rm_X3_meets s m args below meth c H locs 0 0 Q (F0 m 39 ls []) := by
    intro H locs ls hP hl
    refine lv_iconst (v := (0 : Int32)) hx hb dX3_meets_39 (by decide) ?_
    refine lv_istore_n (lv' := [(1, .int (0 : Int32)), (0, .ref (G.2.2.1 0))]) hx hb dX3_meets_40 rfl hl (by decide) rfl (fun ls hl => ?_)
    obtain ⟨σ_20, h_21, h⟩ := bo_ex h
    have hE_22 : ∀ (H : Heap) (locs : List Loc) (ls : Array Slot), PS tw_ft G s σ_20 H locs → lv_has ls 2 [(0, .ref (G.2.2.1 0))] → W p l e rm_X3_meets s m args below meth c H locs 0 0 Q (F0 m 71 ls []) := by
      intro H locs ls hP hl
      refine lv_iconst (v := (0 : Int32)) hx hb dX3_meets_71 (by decide) ?_
      refine lv_istore_n (lv' := [(1, .int (0 : Int32)), (0, .ref (G.2.2.1 0))]) hx hb dX3_meets_72 rfl hl (by decide) rfl (fun ls hl => ?_)
      obtain ⟨σ_27, h_28, h⟩ := bo_ex h
      have hE_29 : ∀ (H : Heap) (locs : List Loc) (ls : Array Slot), PS tw_ft G s σ_27 H locs → lv_has ls 2 [(0, .ref (G.2.2.1 0))] → W p l e rm_X3_meets s m args below meth c H locs 0 0 Q (F0 m 94 ls []) := by
        intro H locs ls hP hl
        refine lv_iconst (v := (0 : Int32)) hx hb dX3_meets_94 (by decide) ?_
        refine lv_istore_n (lv' := [(1, .int (0 : Int32)), (0, .ref (G.2.2.1 0))]) hx hb dX3_meets_95 rfl hl (by decide) rfl (fun ls hl => ?_)
        obtain ⟨σ_34, h_35, h⟩ := bo_ex h
        have hE_36 : ∀ (H : Heap) (locs : List Loc) (ls : Array Slot), PS tw_ft G s σ_34 H locs → lv_has ls 2 [] → W p l e rm_X3_meets s m args below meth c H locs 0 0 Q (F0 m 120 ls []) := by
          intro H locs ls hP hl
          exact hret _ _ _ _ _ dX3_meets_120 (Option.some.inj h) hP
        have hL_33 : ∀ (n : Nat) (w_37 : Int32) (σ_38 : ST) (H : Heap) (locs : List Loc) (ls : Array Slot), wl2 (tw_meets_B96 ) n w_37 σ_38 = some σ_34 → PS tw_ft G s σ_38 H locs → lv_has ls 2 [(0, .ref (G.2.2.1 0)), (1, .int w_37)] → W p l e rm_X3_meets s m args below meth c H locs 0 0 Q (F0 m 96 ls []) := by
          intro n
          induction n with
          | zero => intro w_37 σ_38 H locs ls h_39; cases h_39
          | succ n ih =>
            intro w_37 σ_38 H locs ls h_39 hP hl
            have h_39 : tw_meets_B96  (wl2 (tw_meets_B96 ) n) w_37 σ_38 = some _ := h_39
            generalize wl2 (tw_meets_B96 ) n = rc_40 at h_39 ih
            unfold tw_meets_B96 at h_39
            refine lv_iload_n hx hb dX3_meets_96 rfl (lv_at hl 1 rfl) ?_
            refine lv_aload_n hx hb dX3_meets_97 rfl (lv_at hl 0 rfl) ?_
            refine r_geti X hP 0 tw_c0 lk_3 8 (Nat.le_of_ble_eq_true rfl) q1646 tw_f8 dX3_meets_98 ?_
            refine lv_icmp_ge (tgt := 120) hx hb dX3_meets_101 (by decide) (fun c_41 => ?_) (fun c_41 => ?_)
            · have h_39 := it_t h_39 c_41
              obtain rfl := Option.some.inj h_39
              exact hE_36 _ _ _ hP (lv_sub hl [] rfl)
            · have h_39 := it_f h_39 c_41
              refine lv_aload_n hx hb dX3_meets_104 rfl (lv_at hl 0 rfl) ?_
              refine lv_aload_n hx hb dX3_meets_105 rfl (lv_at hl 0 rfl) ?_
              refine r_geta X hP 0 tw_c0 lk_3 38 (Nat.le_of_ble_eq_true rfl) q1676 tw_f38 dX3_meets_106 ?_
              refine lv_iload_n hx hb dX3_meets_109 rfl (lv_at hl 1 rfl) ?_
              refine r_iald X hP 18 tw_c18 (ck_in h_39) dX3_meets_110 ?_
              have h_39 := ck_k h_39
              obtain ⟨σ_43, e_42, h_39⟩ := bo_ex h_39
              refine r_callv (r_runV (rest := []) X hP 0 tw_c0 lk_3 (mt_X3_oneThing l G σ_38 (lI σ_38 0 38 w_37) e_42) (cwV 1 hts (lw_V q2020 q2022 qs69 q113 q2023) rfl rfl rfl ⟨rfl, cdX3_oneThing⟩ ⟨Nat.le_of_ble_eq_true rfl, Nat.le_of_ble_eq_true rfl⟩) rfl hl.1 rfl (Nat.le_of_ble_eq_true rfl) dX3_meets_111 ⟨Nat.le_refl _, Nat.le_refl _⟩) hP (fun H locs hP => ?_)
              refine lv_iinc (v := (w_37 + (1 : Int32))) (lv' := [(1, .int (w_37 + (1 : Int32))), (0, .ref (G.2.2.1 0))]) hx hb dX3_meets_114 hl (k := 1) rfl rfl (by decide) rfl (fun ls hl => ?_)
              refine lv_goto (tgt := 96) hx hb dX3_meets_117 (by decide) ?_
              exact ih _ _ _ _ _ h_39 hP (lv_sub hl [1, 0] rfl)
        exact hL_33 _ _ _ _ _ _ h_35 hP (lv_sub hl [1, 0] rfl)
      have hL_26 : ∀ (n : Nat) (w_44 : Int32) (σ_45 : ST) (H : Heap) (locs : List Loc) (ls : Array Slot), wl2 (tw_meets_B73 ) n w_44 σ_45 = some σ_27 → PS tw_ft G s σ_45 H locs → lv_has ls 2 [(0, .ref (G.2.2.1 0)), (1, .int w_44)] → W p l e rm_X3_meets s m args below meth c H locs 0 0 Q (F0 m 73 ls []) := by
        intro n
        induction n with
        | zero => intro w_44 σ_45 H locs ls h_46; cases h_46
        | succ n ih =>
          intro w_44 σ_45 H locs ls h_46 hP hl
          have h_46 : tw_meets_B73  (wl2 (tw_meets_B73 ) n) w_44 σ_45 = some _ := h_46
          generalize wl2 (tw_meets_B73 ) n = rc_47 at h_46 ih
          unfold tw_meets_B73 at h_46
          refine lv_iload_n hx hb dX3_meets_73 rfl (lv_at hl 1 rfl) ?_
          refine lv_aload_n hx hb dX3_meets_74 rfl (lv_at hl 0 rfl) ?_
          refine r_geti X hP 0 tw_c0 lk_3 8 (Nat.le_of_ble_eq_true rfl) q1646 tw_f8 dX3_meets_75 ?_
          refine lv_icmp_ge (tgt := 94) hx hb dX3_meets_78 (by decide) (fun c_48 => ?_) (fun c_48 => ?_)
          · have h_46 := it_t h_46 c_48
            obtain rfl := Option.some.inj h_46
            exact hE_29 _ _ _ hP (lv_sub hl [0] rfl)
          · have h_46 := it_f h_46 c_48
            refine lv_aload_n hx hb dX3_meets_81 rfl (lv_at hl 0 rfl) ?_
            refine r_geta X hP 0 tw_c0 lk_3 37 (Nat.le_of_ble_eq_true rfl) q1675 tw_f37 dX3_meets_82 ?_
            refine lv_iload_n hx hb dX3_meets_85 rfl (lv_at hl 1 rfl) ?_
            refine lv_iconst (v := (0 : Int32)) hx hb dX3_meets_86 (by decide) ?_
            refine r_iast X tw_w hP 17 tw_c17 (ck_in h_46) dX3_meets_87 (fun σ_49 H locs e_50 hP => ?_)
            have h_46 := st_k (ck_k h_46) e_50
            refine lv_iinc (v := (w_44 + (1 : Int32))) (lv' := [(1, .int (w_44 + (1 : Int32))), (0, .ref (G.2.2.1 0))]) hx hb dX3_meets_88 hl (k := 1) rfl rfl (by decide) rfl (fun ls hl => ?_)
            refine lv_goto (tgt := 73) hx hb dX3_meets_91 (by decide) ?_
            exact ih _ _ _ _ _ h_46 hP (lv_sub hl [1, 0] rfl)
      exact hL_26 _ _ _ _ _ _ h_28 hP (lv_sub hl [1, 0] rfl)
    have hL_19 : ∀ (n : Nat) (w_51 : Int32) (σ_52 : ST) (H : Heap) (locs : List Loc) (ls : Array Slot), wl2 (tw_meets_B41 ) n w_51 σ_52 = some σ_20 → PS tw_ft G s σ_52 H locs → lv_has ls 2 [(0, .ref (G.2.2.1 0)), (1, .int w_51)] → W p l e rm_X3_meets s m args below meth c H locs 0 0 Q (F0 m 41 ls []) := by
      intro n
      induction n with
      | zero => intro w_51 σ_52 H locs ls h_53; cases h_53
      | succ n ih =>
        intro w_51 σ_52 H locs ls h_53 hP hl
        have h_53 : tw_meets_B41  (wl2 (tw_meets_B41 ) n) w_51 σ_52 = some _ := h_53
        generalize wl2 (tw_meets_B41 ) n = rc_54 at h_53 ih
        unfold tw_meets_B41 at h_53
        refine lv_iload_n hx hb dX3_meets_41 rfl (lv_at hl 1 rfl) ?_
        refine lv_aload_n hx hb dX3_meets_42 rfl (lv_at hl 0 rfl) ?_
        refine r_geti X hP 0 tw_c0 lk_3 9 (Nat.le_of_ble_eq_true rfl) q1647 tw_f9 dX3_meets_43 ?_
        refine lv_icmp_ge (tgt := 71) hx hb dX3_meets_46 (by decide) (fun c_55 => ?_) (fun c_55 => ?_)
        · have h_53 := it_t h_53 c_55
          obtain rfl := Option.some.inj h_53
          exact hE_22 _ _ _ hP (lv_sub hl [0] rfl)
        · have h_53 := it_f h_53 c_55
          refine lv_aload_n hx hb dX3_meets_49 rfl (lv_at hl 0 rfl) ?_
          refine r_geta X hP 0 tw_c0 lk_3 35 (Nat.le_of_ble_eq_true rfl) q1673 tw_f35 dX3_meets_50 ?_
          refine lv_iload_n hx hb dX3_meets_53 rfl (lv_at hl 1 rfl) ?_
          refine lv_bipush (v := (-2 : Int32)) hx hb dX3_meets_54 (by decide) ?_
          refine r_iast X tw_w hP 15 tw_c15 (ck_in h_53) dX3_meets_56 (fun σ_56 H locs e_57 hP => ?_)
          have h_53 := st_k (ck_k h_53) e_57
          refine lv_aload_n hx hb dX3_meets_57 rfl (lv_at hl 0 rfl) ?_
          refine r_geta X hP 0 tw_c0 lk_3 36 (Nat.le_of_ble_eq_true rfl) q1674 tw_f36 dX3_meets_58 ?_
          refine lv_iload_n hx hb dX3_meets_61 rfl (lv_at hl 1 rfl) ?_
          refine lv_bipush (v := (-2 : Int32)) hx hb dX3_meets_62 (by decide) ?_
          refine r_iast X tw_w hP 16 tw_c16 (ck_in h_53) dX3_meets_64 (fun σ_58 H locs e_59 hP => ?_)
          have h_53 := st_k (ck_k h_53) e_59
          refine lv_iinc (v := (w_51 + (1 : Int32))) (lv' := [(1, .int (w_51 + (1 : Int32))), (0, .ref (G.2.2.1 0))]) hx hb dX3_meets_65 hl (k := 1) rfl rfl (by decide) rfl (fun ls hl => ?_)
          refine lv_goto (tgt := 41) hx hb dX3_meets_68 (by decide) ?_
          exact ih _ _ _ _ _ h_53 hP (lv_sub hl [1, 0] rfl)
    exact hL_19 _ _ _ _ _ _ h_21 hP (lv_sub hl [1, 0] rfl)
  have hL_10 : ∀ (n : Nat) (w_60 : Int32) (σ_61 : ST) (H : Heap) (locs : List Loc) (ls : Array Slot), wl2 (tw_meets_B17 ) n w_60 σ_61 = some σ_11 → PS tw_ft G s σ_61 H locs → lv_has ls 2 [(0, .ref (G.2.2.1 0)), (1, .int w_60)] → W p l e rm_X3_meets s m args below meth c H locs 0 0 Q (F0 m 17 ls []) := by
    intro n
    induction n with
    | zero => intro w_60 σ_61 H locs ls h_62; cases h_62
    | succ n ih =>
      intro w_60 σ_61 H locs ls h_62 hP hl
      have h_62 : tw_meets_B17  (wl2 (tw_meets_B17 ) n) w_60 σ_61 = some _ := h_62
      generalize wl2 (tw_meets_B17 ) n = rc_63 at h_62 ih
      unfold tw_meets_B17 at h_62
      refine lv_iload_n hx hb dX3_meets_17 rfl (lv_at hl 1 rfl) ?_
      refine lv_aload_n hx hb dX3_meets_18 rfl (lv_at hl 0 rfl) ?_
      refine r_geti X hP 0 tw_c0 lk_3 6 (Nat.le_of_ble_eq_true rfl) q1644 tw_f6 dX3_meets_19 ?_
      refine lv_icmp_ge (tgt := 39) hx hb dX3_meets_22 (by decide) (fun c_64 => ?_) (fun c_64 => ?_)
      · have h_62 := it_t h_62 c_64
        obtain rfl := Option.some.inj h_62
        exact hE_13 _ _ _ hP (lv_sub hl [0] rfl)
      · have h_62 := it_f h_62 c_64
        refine lv_aload_n hx hb dX3_meets_25 rfl (lv_at hl 0 rfl) ?_
        refine r_geta X hP 0 tw_c0 lk_3 34 (Nat.le_of_ble_eq_true rfl) q1672 tw_f34 dX3_meets_26 ?_
        refine lv_iload_n hx hb dX3_meets_29 rfl (lv_at hl 1 rfl) ?_
        refine lv_bipush (v := (-2 : Int32)) hx hb dX3_meets_30 (by decide) ?_
        refine r_iast X tw_w hP 14 tw_c14 (ck_in h_62) dX3_meets_32 (fun σ_65 H locs e_66 hP => ?_)
        have h_62 := st_k (ck_k h_62) e_66
        refine lv_iinc (v := (w_60 + (1 : Int32))) (lv' := [(1, .int (w_60 + (1 : Int32))), (0, .ref (G.2.2.1 0))]) hx hb dX3_meets_33 hl (k := 1) rfl rfl (by decide) rfl (fun ls hl => ?_)
        refine lv_goto (tgt := 17) hx hb dX3_meets_36 (by decide) ?_
        exact ih _ _ _ _ _ h_62 hP (lv_sub hl [1, 0] rfl)
  exact hL_10 _ _ _ _ _ _ h_12 hP (lv_sub hl [1, 0] rfl)
def tw_plain_B23 (rc23 : Int32 → ST → Option (ST)) (w1 : Int32) (σ : ST) : Option (ST) :=
  (if (gI σ 0 8) ≤ w1 then some (σ) else ck w1 6 (st_ (aI σ 0 38 w1 w1) (fun (σ_8 : ST) => (rc23 (w1 + (1 : Int32)) σ_8))))
def tw_plain (σ : ST)  : Option ST :=
  st_ (pI σ 0 26 (gI σ 0 13)) (fun (σ_1 : ST) => st_ (pI σ_1 0 27 (gI σ_1 0 15)) (fun (σ_3 : ST) => st_ (pI σ_3 0 28 (-1 : Int32)) (fun (σ_5 : ST) => bo (wl2 (tw_plain_B23 ) FU (0 : Int32) σ_5) (fun (σ_11 : ST) => some σ_11))))
abbrev rm_X3_plain : Room := rmf 0 0
set_option maxHeartbeats 4000000 in
set_option maxRecDepth 100000 in
theorem mt_X3_plain (l : Launch) (G : GT) (σ : ST)  {u : ST} (h : tw_plain σ = some u) : CV l tw_ft G yX3_plain (ws_ yX3_plain cX3_plain 2 none) rm_X3_plain 0 0 [.ref (G.2.2.1 0)] σ u := by
  refine m_enterV (by decide) rfl (lv := [(0, .ref (G.2.2.1 0))]) rfl ?_
  intro p e s m args below meth c H locs ls Q X hnm hret hP hl
  have hx := X.1.1
  have hb := X.1.2.1
  have hown := X.1.2.2.2.1
  have hts := X.1.2.2.2.2
  unfold tw_plain at h
  refine lv_aload_n hx hb dX3_plain_0 rfl (lv_at hl 0 rfl) ?_
  refine lv_aload_n hx hb dX3_plain_1 rfl (lv_at hl 0 rfl) ?_
  refine r_geti X hP 0 tw_c0 lk_3 13 (Nat.le_of_ble_eq_true rfl) q1651 tw_f13 dX3_plain_2 ?_
  refine r_puti X tw_w hP 0 tw_c0 lk_3 26 (Nat.le_of_ble_eq_true rfl) q1664 tw_f26 rfl (tyX3_ok 26 (by decide)) rfl rfl dX3_plain_5 (fun σ_1 H locs e_2 hP => ?_)
  have h := st_k h e_2
  refine lv_aload_n hx hb dX3_plain_8 rfl (lv_at hl 0 rfl) ?_
  refine lv_aload_n hx hb dX3_plain_9 rfl (lv_at hl 0 rfl) ?_
  refine r_geti X hP 0 tw_c0 lk_3 15 (Nat.le_of_ble_eq_true rfl) q1653 tw_f15 dX3_plain_10 ?_
  refine r_puti X tw_w hP 0 tw_c0 lk_3 27 (Nat.le_of_ble_eq_true rfl) q1665 tw_f27 rfl (tyX3_ok 27 (by decide)) rfl rfl dX3_plain_13 (fun σ_3 H locs e_4 hP => ?_)
  have h := st_k h e_4
  refine lv_aload_n hx hb dX3_plain_16 rfl (lv_at hl 0 rfl) ?_
  refine lv_iconst (v := (-1 : Int32)) hx hb dX3_plain_17 (by decide) ?_
  refine r_puti X tw_w hP 0 tw_c0 lk_3 28 (Nat.le_of_ble_eq_true rfl) q1666 tw_f28 rfl (tyX3_ok 28 (by decide)) rfl rfl dX3_plain_18 (fun σ_5 H locs e_6 hP => ?_)
  have h := st_k h e_6
  refine lv_iconst (v := (0 : Int32)) hx hb dX3_plain_21 (by decide) ?_
  refine lv_istore_n (lv' := [(1, .int (0 : Int32)), (0, .ref (G.2.2.1 0))]) hx hb dX3_plain_22 rfl hl (by decide) rfl (fun ls hl => ?_)
  obtain ⟨σ_11, h_12, h⟩ := bo_ex h
  have hE_13 : ∀ (H : Heap) (locs : List Loc) (ls : Array Slot), PS tw_ft G s σ_11 H locs → lv_has ls 2 [] → W p l e rm_X3_plain s m args below meth c H locs 0 0 Q (F0 m 44 ls []) := by
    intro H locs ls hP hl
    exact hret _ _ _ _ _ dX3_plain_44 (Option.some.inj h) hP
  have hL_10 : ∀ (n : Nat) (w_14 : Int32) (σ_15 : ST) (H : Heap) (locs : List Loc) (ls : Array Slot), wl2 (tw_plain_B23 ) n w_14 σ_15 = some σ_11 → PS tw_ft G s σ_15 H locs → lv_has ls 2 [(0, .ref (G.2.2.1 0)), (1, .int w_14)] → W p l e rm_X3_plain s m args below meth c H locs 0 0 Q (F0 m 23 ls []) := by
    intro n
    induction n with
    | zero => intro w_14 σ_15 H locs ls h_16; cases h_16
    | succ n ih =>
      intro w_14 σ_15 H locs ls h_16 hP hl
      have h_16 : tw_plain_B23  (wl2 (tw_plain_B23 ) n) w_14 σ_15 = some _ := h_16
      generalize wl2 (tw_plain_B23 ) n = rc_17 at h_16 ih
      unfold tw_plain_B23 at h_16
      refine lv_iload_n hx hb dX3_plain_23 rfl (lv_at hl 1 rfl) ?_
      refine lv_aload_n hx hb dX3_plain_24 rfl (lv_at hl 0 rfl) ?_
      refine r_geti X hP 0 tw_c0 lk_3 8 (Nat.le_of_ble_eq_true rfl) q1646 tw_f8 dX3_plain_25 ?_
      refine lv_icmp_ge (tgt := 44) hx hb dX3_plain_28 (by decide) (fun c_18 => ?_) (fun c_18 => ?_)
      · have h_16 := it_t h_16 c_18
        obtain rfl := Option.some.inj h_16
        exact hE_13 _ _ _ hP (lv_sub hl [] rfl)
      · have h_16 := it_f h_16 c_18
        refine lv_aload_n hx hb dX3_plain_31 rfl (lv_at hl 0 rfl) ?_
        refine r_geta X hP 0 tw_c0 lk_3 38 (Nat.le_of_ble_eq_true rfl) q1676 tw_f38 dX3_plain_32 ?_
        refine lv_iload_n hx hb dX3_plain_35 rfl (lv_at hl 1 rfl) ?_
        refine lv_iload_n hx hb dX3_plain_36 rfl (lv_at hl 1 rfl) ?_
        refine r_iast X tw_w hP 18 tw_c18 (ck_in h_16) dX3_plain_37 (fun σ_19 H locs e_20 hP => ?_)
        have h_16 := st_k (ck_k h_16) e_20
        refine lv_iinc (v := (w_14 + (1 : Int32))) (lv' := [(1, .int (w_14 + (1 : Int32))), (0, .ref (G.2.2.1 0))]) hx hb dX3_plain_38 hl (k := 1) rfl rfl (by decide) rfl (fun ls hl => ?_)
        refine lv_goto (tgt := 23) hx hb dX3_plain_41 (by decide) ?_
        exact ih _ _ _ _ _ h_16 hP (lv_sub hl [1, 0] rfl)
  exact hL_10 _ _ _ _ _ _ h_12 hP (lv_sub hl [1, 0] rfl)
def tw_size (a0 : Int32) : Option Int32 :=
  (if 0 ≤ a0 then some a0 else some (-a0))
abbrev rm_X3_size : Room := rmf 0 0
set_option maxHeartbeats 4000000 in
set_option maxRecDepth 100000 in
theorem mt_X3_size (l : Launch) (G : GT) (σ : ST) (a0 : Int32) {r : Int32} (h : tw_size a0 = some r) : CI l tw_ft G yX3_size (ws_ yX3_size cX3_size 1 (some .int)) rm_X3_size 0 0 [.int a0] σ (r, σ) := by
  refine m_enterI (by decide) rfl (lv := [(0, .int a0)]) rfl ?_
  intro p e s m args below meth c H locs ls Q X hret hP hl
  have hx := X.1.1
  have hb := X.1.2.1
  have hown := X.1.2.2.2.1
  have hts := X.1.2.2.2.2
  unfold tw_size at h
  refine lv_iload_n hx hb dX3_size_0 rfl (lv_at hl 0 rfl) ?_
  refine lv_if_ge (tgt := 9) hx hb dX3_size_1 (by decide) (fun c_1 => ?_) (fun c_1 => ?_)
  · have h := it_t h c_1
    refine lv_iload_n hx hb dX3_size_9 rfl (lv_at hl 0 rfl) ?_
    exact hret _ _ _ _ _ _ dX3_size_10 rfl (congrArg (fun z9 => (z9, σ)) (Option.some.inj h)) hP
  · have h := it_f h c_1
    refine lv_iload_n hx hb dX3_size_4 rfl (lv_at hl 0 rfl) ?_
    refine lv_ineg hx hb dX3_size_5 ?_
    refine lv_goto (tgt := 10) hx hb dX3_size_6 (by decide) ?_
    exact hret _ _ _ _ _ _ dX3_size_10 rfl (congrArg (fun z9 => (z9, σ)) (Option.some.inj h)) hP
def tw_shed_B4 (σ : ST) (rc4 : Int32 → Int32 → Option (Int32)) (w1 : Int32) (w2 : Int32) : Option (Int32) :=
  (if (gI σ 0 8) ≤ w2 then some (w1) else ck w2 6 (ck ((30 : Int32) + w2) 42 (bo (tw_size (lI σ 0 0 ((30 : Int32) + w2))) (fun (r_3 : Int32) => nz (r_3 + (1 : Int32)) (ck w1 6 (ck ((30 : Int32) + w1) 42 (bo (tw_size (lI σ 0 0 ((30 : Int32) + w1))) (fun (r_5 : Int32) => nz (r_5 + (1 : Int32)) (bo (if (((1000 : Int32) * (lI σ 0 37 w2)) / (r_3 + (1 : Int32))) ≤ (((1000 : Int32) * (lI σ 0 37 w1)) / (r_5 + (1 : Int32))) then some (w1) else some (w2)) (fun (x_6 : Int32) => (rc4 x_6 (w2 + (1 : Int32)))))))))))))
def tw_shed (σ : ST)  : Option Int32 :=
  bo (wl2 (tw_shed_B4 σ ) FU (0 : Int32) (1 : Int32)) (fun (o_11 : Int32) => some o_11)
abbrev rm_X3_shed : Room := rmf 1 20
set_option maxHeartbeats 4000000 in
set_option maxRecDepth 100000 in
theorem mt_X3_shed (l : Launch) (G : GT) (σ : ST)  {r : Int32} (h : tw_shed σ = some r) : CI l tw_ft G yX3_shed (ws_ yX3_shed cX3_shed 3 (some .int)) rm_X3_shed 0 0 [.ref (G.2.2.1 0)] σ (r, σ) := by
  refine m_enterI (by decide) rfl (lv := [(0, .ref (G.2.2.1 0))]) rfl ?_
  intro p e s m args below meth c H locs ls Q X hret hP hl
  have hx := X.1.1
  have hb := X.1.2.1
  have hown := X.1.2.2.2.1
  have hts := X.1.2.2.2.2
  unfold tw_shed at h
  refine lv_iconst (v := (0 : Int32)) hx hb dX3_shed_0 (by decide) ?_
  refine lv_istore_n (lv' := [(1, .int (0 : Int32)), (0, .ref (G.2.2.1 0))]) hx hb dX3_shed_1 rfl hl (by decide) rfl (fun ls hl => ?_)
  refine lv_iconst (v := (1 : Int32)) hx hb dX3_shed_2 (by decide) ?_
  refine lv_istore_n (lv' := [(2, .int (1 : Int32)), (1, .int (0 : Int32)), (0, .ref (G.2.2.1 0))]) hx hb dX3_shed_3 rfl hl (by decide) rfl (fun ls hl => ?_)
  obtain ⟨o_11, h_12, h⟩ := bo_ex h
  have hE_13 : ∀ (H : Heap) (locs : List Loc) (ls : Array Slot), PS tw_ft G s σ H locs → lv_has ls 3 [(1, .int o_11)] → W p l e rm_X3_shed s m args below meth c H locs 0 0 Q (F0 m 77 ls []) := by
    intro H locs ls hP hl
    refine lv_iload_n hx hb dX3_shed_77 rfl (lv_at hl 0 rfl) ?_
    exact hret _ _ _ _ _ _ dX3_shed_78 rfl (congrArg (fun z9 => (z9, σ)) (Option.some.inj h)) hP
  have hL_10 : ∀ (n : Nat) (w_14 : Int32) (w_15 : Int32) (H : Heap) (locs : List Loc) (ls : Array Slot), wl2 (tw_shed_B4 σ ) n w_14 w_15 = some o_11 → PS tw_ft G s σ H locs → lv_has ls 3 [(0, .ref (G.2.2.1 0)), (1, .int w_14), (2, .int w_15)] → W p l e rm_X3_shed s m args below meth c H locs 0 0 Q (F0 m 4 ls []) := by
    intro n
    induction n with
    | zero => intro w_14 w_15 H locs ls h_16; cases h_16
    | succ n ih =>
      intro w_14 w_15 H locs ls h_16 hP hl
      have h_16 : tw_shed_B4 σ  (wl2 (tw_shed_B4 σ ) n) w_14 w_15 = some _ := h_16
      generalize wl2 (tw_shed_B4 σ ) n = rc_17 at h_16 ih
      unfold tw_shed_B4 at h_16
      refine lv_iload_n hx hb dX3_shed_4 rfl (lv_at hl 2 rfl) ?_
      refine lv_aload_n hx hb dX3_shed_5 rfl (lv_at hl 0 rfl) ?_
      refine r_geti X hP 0 tw_c0 lk_3 8 (Nat.le_of_ble_eq_true rfl) q1646 tw_f8 dX3_shed_6 ?_
      refine lv_icmp_ge (tgt := 77) hx hb dX3_shed_9 (by decide) (fun c_18 => ?_) (fun c_18 => ?_)
      · have h_16 := it_t h_16 c_18
        obtain rfl := Option.some.inj h_16
        exact hE_13 _ _ _ hP (lv_sub hl [1] rfl)
      · have h_16 := it_f h_16 c_18
        refine lv_sipush (v := (1000 : Int32)) hx hb dX3_shed_12 (by decide) ?_
        refine lv_aload_n hx hb dX3_shed_15 rfl (lv_at hl 0 rfl) ?_
        refine r_geta X hP 0 tw_c0 lk_3 37 (Nat.le_of_ble_eq_true rfl) q1675 tw_f37 dX3_shed_16 ?_
        refine lv_iload_n hx hb dX3_shed_19 rfl (lv_at hl 2 rfl) ?_
        refine r_iald X hP 17 tw_c17 (ck_in h_16) dX3_shed_20 ?_
        have h_16 := ck_k h_16
        refine lv_imul hx hb dX3_shed_21 ?_
        refine lv_aload_n hx hb dX3_shed_22 rfl (lv_at hl 0 rfl) ?_
        refine r_geta X hP 0 tw_c0 lk_3 0 (Nat.le_of_ble_eq_true rfl) q1638 tw_f0 dX3_shed_23 ?_
        refine lv_bipush (v := (30 : Int32)) hx hb dX3_shed_26 (by decide) ?_
        refine lv_iload_n hx hb dX3_shed_28 rfl (lv_at hl 2 rfl) ?_
        refine lv_iadd hx hb dX3_shed_29 ?_
        refine r_iald X hP 1 tw_c1 (ck_in h_16) dX3_shed_30 ?_
        have h_16 := ck_k h_16
        obtain ⟨r_20, e_19, h_16⟩ := bo_ex h_16
        refine r_calli (r_runS (rest := [.int ((1000 : Int32) * (lI σ 0 37 w_15))]) X hP (mt_X3_size l G σ (lI σ 0 0 ((30 : Int32) + w_15)) e_19) (va_cwS 1 hts (lw_S q2135 q2136 q113 q2137) rfl rfl rfl cdX3_size ⟨Nat.le_of_ble_eq_true rfl, Nat.le_of_ble_eq_true rfl⟩) rfl hl.1 rfl (Nat.le_of_ble_eq_true rfl) dX3_shed_31 ⟨Nat.le_refl _, Nat.le_refl _⟩) hP (fun H locs hP => ?_)
        refine lv_iconst (v := (1 : Int32)) hx hb dX3_shed_34 (by decide) ?_
        refine lv_iadd hx hb dX3_shed_35 ?_
        refine lv_idiv hx hb dX3_shed_36 (nz_ne h_16) ?_
        have h_16 := nz_k h_16
        refine lv_sipush (v := (1000 : Int32)) hx hb dX3_shed_37 (by decide) ?_
        refine lv_aload_n hx hb dX3_shed_40 rfl (lv_at hl 0 rfl) ?_
        refine r_geta X hP 0 tw_c0 lk_3 37 (Nat.le_of_ble_eq_true rfl) q1675 tw_f37 dX3_shed_41 ?_
        refine lv_iload_n hx hb dX3_shed_44 rfl (lv_at hl 1 rfl) ?_
        refine r_iald X hP 17 tw_c17 (ck_in h_16) dX3_shed_45 ?_
        have h_16 := ck_k h_16
        refine lv_imul hx hb dX3_shed_46 ?_
        refine lv_aload_n hx hb dX3_shed_47 rfl (lv_at hl 0 rfl) ?_
        refine r_geta X hP 0 tw_c0 lk_3 0 (Nat.le_of_ble_eq_true rfl) q1638 tw_f0 dX3_shed_48 ?_
        refine lv_bipush (v := (30 : Int32)) hx hb dX3_shed_51 (by decide) ?_
        refine lv_iload_n hx hb dX3_shed_53 rfl (lv_at hl 1 rfl) ?_
        refine lv_iadd hx hb dX3_shed_54 ?_
        refine r_iald X hP 1 tw_c1 (ck_in h_16) dX3_shed_55 ?_
        have h_16 := ck_k h_16
        obtain ⟨r_22, e_21, h_16⟩ := bo_ex h_16
        refine r_calli (r_runS (rest := [.int ((1000 : Int32) * (lI σ 0 37 w_14)), .int (((1000 : Int32) * (lI σ 0 37 w_15)) / (r_20 + (1 : Int32)))]) X hP (mt_X3_size l G σ (lI σ 0 0 ((30 : Int32) + w_14)) e_21) (va_cwS 1 hts (lw_S q2135 q2136 q113 q2137) rfl rfl rfl cdX3_size ⟨Nat.le_of_ble_eq_true rfl, Nat.le_of_ble_eq_true rfl⟩) rfl hl.1 rfl (Nat.le_of_ble_eq_true rfl) dX3_shed_56 ⟨Nat.le_refl _, Nat.le_refl _⟩) hP (fun H locs hP => ?_)
        refine lv_iconst (v := (1 : Int32)) hx hb dX3_shed_59 (by decide) ?_
        refine lv_iadd hx hb dX3_shed_60 ?_
        refine lv_idiv hx hb dX3_shed_61 (nz_ne h_16) ?_
        have h_16 := nz_k h_16
        obtain ⟨x_23, h_24, h_16⟩ := bo_ex h_16
        have hJ_25 : ∀ (H : Heap) (locs : List Loc) (ls : Array Slot), PS tw_ft G s σ H locs → lv_has ls 3 [(0, .ref (G.2.2.1 0)), (2, .int w_15)] → W p l e rm_X3_shed s m args below meth c H locs 0 0 Q (F0 m 70 ls [.int x_23]) := by
          intro H locs ls hP hl
          refine lv_istore_n (lv' := [(1, .int x_23), (0, .ref (G.2.2.1 0)), (2, .int w_15)]) hx hb dX3_shed_70 rfl hl (by decide) rfl (fun ls hl => ?_)
          refine lv_iinc (v := (w_15 + (1 : Int32))) (lv' := [(2, .int (w_15 + (1 : Int32))), (1, .int x_23), (0, .ref (G.2.2.1 0))]) hx hb dX3_shed_71 hl (k := 2) rfl rfl (by decide) rfl (fun ls hl => ?_)
          refine lv_goto (tgt := 4) hx hb dX3_shed_74 (by decide) ?_
          exact ih _ _ _ _ _ h_16 hP (lv_sub hl [2, 1, 0] rfl)
        refine lv_icmp_le (tgt := 69) hx hb dX3_shed_62 (by decide) (fun c_26 => ?_) (fun c_26 => ?_)
        · have h_24 := it_t h_24 c_26
          refine lv_iload_n hx hb dX3_shed_69 rfl (lv_at hl 1 rfl) ?_
          obtain rfl := Option.some.inj h_24
          exact hJ_25 _ _ _ hP (lv_sub hl [0, 2] rfl)
        · have h_24 := it_f h_24 c_26
          refine lv_iload_n hx hb dX3_shed_65 rfl (lv_at hl 2 rfl) ?_
          refine lv_goto (tgt := 70) hx hb dX3_shed_66 (by decide) ?_
          obtain rfl := Option.some.inj h_24
          exact hJ_25 _ _ _ hP (lv_sub hl [0, 2] rfl)
  exact hL_10 _ _ _ _ _ _ h_12 hP (lv_sub hl [2, 1, 0] rfl)
def tw_isKnown (σ : ST) (a1 : Int32) : Option Int32 :=
  ck a1 20 ((if ((lI σ 0 12 a1) &&& (((1 : Int32) <<< ((gI σ 0 6) &&& 31)) - (1 : Int32))) = 0 then some (0 : Int32) else some (1 : Int32)))
abbrev rm_X3_isKnown : Room := rmf 0 0
set_option maxHeartbeats 4000000 in
set_option maxRecDepth 100000 in
theorem mt_X3_isKnown (l : Launch) (G : GT) (σ : ST) (a1 : Int32) {r : Int32} (h : tw_isKnown σ a1 = some r) : CI l tw_ft G yX3_isKnown (ws_ yX3_isKnown cX3_isKnown 2 (some .boolean)) rm_X3_isKnown 0 0 [.ref (G.2.2.1 0), .int a1] σ (r, σ) := by
  refine m_enterI (by decide) rfl (lv := [(0, .ref (G.2.2.1 0)), (1, .int a1)]) rfl ?_
  intro p e s m args below meth c H locs ls Q X hret hP hl
  have hx := X.1.1
  have hb := X.1.2.1
  have hown := X.1.2.2.2.1
  have hts := X.1.2.2.2.2
  unfold tw_isKnown at h
  refine lv_aload_n hx hb dX3_isKnown_0 rfl (lv_at hl 0 rfl) ?_
  refine r_geta X hP 0 tw_c0 lk_3 12 (Nat.le_of_ble_eq_true rfl) q1650 tw_f12 dX3_isKnown_1 ?_
  refine lv_iload_n hx hb dX3_isKnown_4 rfl (lv_at hl 1 rfl) ?_
  refine r_iald X hP 8 tw_c8 (ck_in h) dX3_isKnown_5 ?_
  have h := ck_k h
  refine lv_iconst (v := (1 : Int32)) hx hb dX3_isKnown_6 (by decide) ?_
  refine lv_aload_n hx hb dX3_isKnown_7 rfl (lv_at hl 0 rfl) ?_
  refine r_geti X hP 0 tw_c0 lk_3 6 (Nat.le_of_ble_eq_true rfl) q1644 tw_f6 dX3_isKnown_8 ?_
  refine lv_ishl hx hb dX3_isKnown_11 ?_
  refine lv_iconst (v := (1 : Int32)) hx hb dX3_isKnown_12 (by decide) ?_
  refine lv_isub hx hb dX3_isKnown_13 ?_
  refine lv_iand hx hb dX3_isKnown_14 ?_
  refine lv_if_eq (tgt := 22) hx hb dX3_isKnown_15 (by decide) (fun c_1 => ?_) (fun c_1 => ?_)
  · have h := it_t h c_1
    refine lv_iconst (v := (0 : Int32)) hx hb dX3_isKnown_22 (by decide) ?_
    exact hret _ _ _ _ _ _ dX3_isKnown_23 rfl (congrArg (fun z9 => (z9, σ)) (Option.some.inj h)) hP
  · have h := it_f h c_1
    refine lv_iconst (v := (1 : Int32)) hx hb dX3_isKnown_18 (by decide) ?_
    refine lv_goto (tgt := 23) hx hb dX3_isKnown_19 (by decide) ?_
    exact hret _ _ _ _ _ _ dX3_isKnown_23 rfl (congrArg (fun z9 => (z9, σ)) (Option.some.inj h)) hP
def tw_shouldBe_B25 (σ : ST) (l1 : Int32) (l2 : Int32) (rc25 : Int32 → Int32 → Option (Int32)) (w3 : Int32) (w4 : Int32) : Option (Int32) :=
  (if (gI σ 0 9) ≤ w4 then some (w3) else ck w4 20 (bo (if (lI σ 0 10 w4) = l2 then bo (tw_isKnown σ w4) (fun (r_8 : Int32) => (if r_8 = 0 then some ((0 : Int32)) else ck w4 20 (some ((lI σ 0 11 w4))))) else some ((0 : Int32))) (fun (x_3 : Int32) => (rc25 (w3 + x_3) (w4 + (1 : Int32))))))
def tw_shouldBe_B4 (σ : ST) (rc4 : Int32 → Int32 → Option (Int32)) (w1 : Int32) (w2 : Int32) : Option (Int32) :=
  (if (gI σ 0 8) ≤ w2 then some (w1) else ck ((30 : Int32) + w2) 42 (bo (wl2 (tw_shouldBe_B25 σ w1 w2) FU (lI σ 0 0 ((30 : Int32) + w2)) (0 : Int32)) (fun (o_11 : Int32) => bo (if o_11 ≤ 0 then some ((0 : Int32)) else some (((1 : Int32) <<< (w2 &&& 31)))) (fun (x_14 : Int32) => (rc4 (w1 ||| x_14) (w2 + (1 : Int32)))))))
def tw_shouldBe (σ : ST)  : Option Int32 :=
  bo (wl2 (tw_shouldBe_B4 σ ) FU (0 : Int32) (0 : Int32)) (fun (o_31 : Int32) => some o_31)
abbrev rm_X3_shouldBe : Room := rmf 1 21
set_option maxHeartbeats 4000000 in
set_option maxRecDepth 100000 in
theorem mt_X3_shouldBe (l : Launch) (G : GT) (σ : ST)  {r : Int32} (h : tw_shouldBe σ = some r) : CI l tw_ft G yX3_shouldBe (ws_ yX3_shouldBe cX3_shouldBe 5 (some .int)) rm_X3_shouldBe 0 0 [.ref (G.2.2.1 0)] σ (r, σ) := by
  refine m_enterI (by decide) rfl (lv := [(0, .ref (G.2.2.1 0))]) rfl ?_
  intro p e s m args below meth c H locs ls Q X hret hP hl
  have hx := X.1.1
  have hb := X.1.2.1
  have hown := X.1.2.2.2.1
  have hts := X.1.2.2.2.2
  unfold tw_shouldBe at h
  refine lv_iconst (v := (0 : Int32)) hx hb dX3_shouldBe_0 (by decide) ?_
  refine lv_istore_n (lv' := [(1, .int (0 : Int32)), (0, .ref (G.2.2.1 0))]) hx hb dX3_shouldBe_1 rfl hl (by decide) rfl (fun ls hl => ?_)
  refine lv_iconst (v := (0 : Int32)) hx hb dX3_shouldBe_2 (by decide) ?_
  refine lv_istore_n (lv' := [(2, .int (0 : Int32)), (1, .int (0 : Int32)), (0, .ref (G.2.2.1 0))]) hx hb dX3_shouldBe_3 rfl hl (by decide) rfl (fun ls hl => ?_)
  obtain ⟨o_31, h_32, h⟩ := bo_ex h
  have hE_33 : ∀ (H : Heap) (locs : List Loc) (ls : Array Slot), PS tw_ft G s σ H locs → lv_has ls 5 [(1, .int o_31)] → W p l e rm_X3_shouldBe s m args below meth c H locs 0 0 Q (F0 m 94 ls []) := by
    intro H locs ls hP hl
    refine lv_iload_n hx hb dX3_shouldBe_94 rfl (lv_at hl 0 rfl) ?_
    exact hret _ _ _ _ _ _ dX3_shouldBe_95 rfl (congrArg (fun z9 => (z9, σ)) (Option.some.inj h)) hP
  have hL_30 : ∀ (n : Nat) (w_34 : Int32) (w_35 : Int32) (H : Heap) (locs : List Loc) (ls : Array Slot), wl2 (tw_shouldBe_B4 σ ) n w_34 w_35 = some o_31 → PS tw_ft G s σ H locs → lv_has ls 5 [(0, .ref (G.2.2.1 0)), (1, .int w_34), (2, .int w_35)] → W p l e rm_X3_shouldBe s m args below meth c H locs 0 0 Q (F0 m 4 ls []) := by
    intro n
    induction n with
    | zero => intro w_34 w_35 H locs ls h_36; cases h_36
    | succ n ih =>
      intro w_34 w_35 H locs ls h_36 hP hl
      have h_36 : tw_shouldBe_B4 σ  (wl2 (tw_shouldBe_B4 σ ) n) w_34 w_35 = some _ := h_36
      generalize wl2 (tw_shouldBe_B4 σ ) n = rc_37 at h_36 ih
      unfold tw_shouldBe_B4 at h_36
      refine lv_iload_n hx hb dX3_shouldBe_4 rfl (lv_at hl 2 rfl) ?_
      refine lv_aload_n hx hb dX3_shouldBe_5 rfl (lv_at hl 0 rfl) ?_
      refine r_geti X hP 0 tw_c0 lk_3 8 (Nat.le_of_ble_eq_true rfl) q1646 tw_f8 dX3_shouldBe_6 ?_
      refine lv_icmp_ge (tgt := 94) hx hb dX3_shouldBe_9 (by decide) (fun c_38 => ?_) (fun c_38 => ?_)
      · have h_36 := it_t h_36 c_38
        obtain rfl := Option.some.inj h_36
        exact hE_33 _ _ _ hP (lv_sub hl [1] rfl)
      · have h_36 := it_f h_36 c_38
        refine lv_aload_n hx hb dX3_shouldBe_12 rfl (lv_at hl 0 rfl) ?_
        refine r_geta X hP 0 tw_c0 lk_3 0 (Nat.le_of_ble_eq_true rfl) q1638 tw_f0 dX3_shouldBe_13 ?_
        refine lv_bipush (v := (30 : Int32)) hx hb dX3_shouldBe_16 (by decide) ?_
        refine lv_iload_n hx hb dX3_shouldBe_18 rfl (lv_at hl 2 rfl) ?_
        refine lv_iadd hx hb dX3_shouldBe_19 ?_
        refine r_iald X hP 1 tw_c1 (ck_in h_36) dX3_shouldBe_20 ?_
        have h_36 := ck_k h_36
        refine lv_istore_n (lv' := [(3, .int (lI σ 0 0 ((30 : Int32) + w_35))), (0, .ref (G.2.2.1 0)), (1, .int w_34), (2, .int w_35)]) hx hb dX3_shouldBe_21 rfl hl (by decide) rfl (fun ls hl => ?_)
        refine lv_iconst (v := (0 : Int32)) hx hb dX3_shouldBe_22 (by decide) ?_
        refine lv_istore (lv' := [(4, .int (0 : Int32)), (3, .int (lI σ 0 0 ((30 : Int32) + w_35))), (0, .ref (G.2.2.1 0)), (1, .int w_34), (2, .int w_35)]) hx hb dX3_shouldBe_23 hl (by decide) rfl (fun ls hl => ?_)
        obtain ⟨o_40, h_41, h_36⟩ := bo_ex h_36
        have hE_42 : ∀ (H : Heap) (locs : List Loc) (ls : Array Slot), PS tw_ft G s σ H locs → lv_has ls 5 [(0, .ref (G.2.2.1 0)), (1, .int w_34), (2, .int w_35), (3, .int o_40)] → W p l e rm_X3_shouldBe s m args below meth c H locs 0 0 Q (F0 m 74 ls []) := by
          intro H locs ls hP hl
          refine lv_iload_n hx hb dX3_shouldBe_74 rfl (lv_at hl 1 rfl) ?_
          refine lv_iload_n hx hb dX3_shouldBe_75 rfl (lv_at hl 3 rfl) ?_
          obtain ⟨x_43, h_44, h_36⟩ := bo_ex h_36
          have hJ_45 : ∀ (H : Heap) (locs : List Loc) (ls : Array Slot), PS tw_ft G s σ H locs → lv_has ls 5 [(0, .ref (G.2.2.1 0)), (2, .int w_35)] → W p l e rm_X3_shouldBe s m args below meth c H locs 0 0 Q (F0 m 86 ls [.int x_43, .int w_34]) := by
            intro H locs ls hP hl
            refine lv_ior hx hb dX3_shouldBe_86 ?_
            refine lv_istore_n (lv' := [(1, .int (w_34 ||| x_43)), (0, .ref (G.2.2.1 0)), (2, .int w_35)]) hx hb dX3_shouldBe_87 rfl hl (by decide) rfl (fun ls hl => ?_)
            refine lv_iinc (v := (w_35 + (1 : Int32))) (lv' := [(2, .int (w_35 + (1 : Int32))), (1, .int (w_34 ||| x_43)), (0, .ref (G.2.2.1 0))]) hx hb dX3_shouldBe_88 hl (k := 2) rfl rfl (by decide) rfl (fun ls hl => ?_)
            refine lv_goto (tgt := 4) hx hb dX3_shouldBe_91 (by decide) ?_
            exact ih _ _ _ _ _ h_36 hP (lv_sub hl [2, 1, 0] rfl)
          refine lv_if_le (tgt := 85) hx hb dX3_shouldBe_76 (by decide) (fun c_46 => ?_) (fun c_46 => ?_)
          · have h_44 := it_t h_44 c_46
            refine lv_iconst (v := (0 : Int32)) hx hb dX3_shouldBe_85 (by decide) ?_
            obtain rfl := Option.some.inj h_44
            exact hJ_45 _ _ _ hP (lv_sub hl [0, 2] rfl)
          · have h_44 := it_f h_44 c_46
            refine lv_iconst (v := (1 : Int32)) hx hb dX3_shouldBe_79 (by decide) ?_
            refine lv_iload_n hx hb dX3_shouldBe_80 rfl (lv_at hl 2 rfl) ?_
            refine lv_ishl hx hb dX3_shouldBe_81 ?_
            refine lv_goto (tgt := 86) hx hb dX3_shouldBe_82 (by decide) ?_
            obtain rfl := Option.some.inj h_44
            exact hJ_45 _ _ _ hP (lv_sub hl [0, 2] rfl)
        have hL_39 : ∀ (n : Nat) (w_47 : Int32) (w_48 : Int32) (H : Heap) (locs : List Loc) (ls : Array Slot), wl2 (tw_shouldBe_B25 σ w_34 w_35) n w_47 w_48 = some o_40 → PS tw_ft G s σ H locs → lv_has ls 5 [(0, .ref (G.2.2.1 0)), (1, .int w_34), (2, .int w_35), (3, .int w_47), (4, .int w_48)] → W p l e rm_X3_shouldBe s m args below meth c H locs 0 0 Q (F0 m 25 ls []) := by
          intro n
          induction n with
          | zero => intro w_47 w_48 H locs ls h_49; cases h_49
          | succ n ih =>
            intro w_47 w_48 H locs ls h_49 hP hl
            have h_49 : tw_shouldBe_B25 σ w_34 w_35 (wl2 (tw_shouldBe_B25 σ w_34 w_35) n) w_47 w_48 = some _ := h_49
            generalize wl2 (tw_shouldBe_B25 σ w_34 w_35) n = rc_50 at h_49 ih
            unfold tw_shouldBe_B25 at h_49
            refine lv_iload hx hb dX3_shouldBe_25 (lv_at hl 4 rfl) ?_
            refine lv_aload_n hx hb dX3_shouldBe_27 rfl (lv_at hl 0 rfl) ?_
            refine r_geti X hP 0 tw_c0 lk_3 9 (Nat.le_of_ble_eq_true rfl) q1647 tw_f9 dX3_shouldBe_28 ?_
            refine lv_icmp_ge (tgt := 74) hx hb dX3_shouldBe_31 (by decide) (fun c_51 => ?_) (fun c_51 => ?_)
            · have h_49 := it_t h_49 c_51
              obtain rfl := Option.some.inj h_49
              exact hE_42 _ _ _ hP (lv_sub hl [0, 1, 2, 3] rfl)
            · have h_49 := it_f h_49 c_51
              refine lv_iload_n hx hb dX3_shouldBe_34 rfl (lv_at hl 3 rfl) ?_
              refine lv_aload_n hx hb dX3_shouldBe_35 rfl (lv_at hl 0 rfl) ?_
              refine r_geta X hP 0 tw_c0 lk_3 10 (Nat.le_of_ble_eq_true rfl) q1648 tw_f10 dX3_shouldBe_36 ?_
              refine lv_iload hx hb dX3_shouldBe_39 (lv_at hl 4 rfl) ?_
              refine r_iald X hP 6 tw_c6 (ck_in h_49) dX3_shouldBe_41 ?_
              have h_49 := ck_k h_49
              refine lv_iload_n hx hb dX3_shouldBe_42 rfl (lv_at hl 2 rfl) ?_
              obtain ⟨x_52, h_53, h_49⟩ := bo_ex h_49
              have hJ_54 : ∀ (H : Heap) (locs : List Loc) (ls : Array Slot), PS tw_ft G s σ H locs → lv_has ls 5 [(0, .ref (G.2.2.1 0)), (1, .int w_34), (2, .int w_35), (4, .int w_48)] → W p l e rm_X3_shouldBe s m args below meth c H locs 0 0 Q (F0 m 66 ls [.int x_52, .int w_47]) := by
                intro H locs ls hP hl
                refine lv_iadd hx hb dX3_shouldBe_66 ?_
                refine lv_istore_n (lv' := [(3, .int (w_47 + x_52)), (0, .ref (G.2.2.1 0)), (1, .int w_34), (2, .int w_35), (4, .int w_48)]) hx hb dX3_shouldBe_67 rfl hl (by decide) rfl (fun ls hl => ?_)
                refine lv_iinc (v := (w_48 + (1 : Int32))) (lv' := [(4, .int (w_48 + (1 : Int32))), (3, .int (w_47 + x_52)), (0, .ref (G.2.2.1 0)), (1, .int w_34), (2, .int w_35)]) hx hb dX3_shouldBe_68 hl (k := 4) rfl rfl (by decide) rfl (fun ls hl => ?_)
                refine lv_goto (tgt := 25) hx hb dX3_shouldBe_71 (by decide) ?_
                exact ih _ _ _ _ _ h_49 hP (lv_sub hl [2, 3, 4, 1, 0] rfl)
              refine lv_icmp_ne (tgt := 65) hx hb dX3_shouldBe_43 (by decide) (fun c_55 => ?_) (fun c_55 => ?_)
              · have h_53 := it_f h_53 c_55
                refine lv_iconst (v := (0 : Int32)) hx hb dX3_shouldBe_65 (by decide) ?_
                obtain rfl := Option.some.inj h_53
                exact hJ_54 _ _ _ hP (lv_sub hl [0, 1, 2, 4] rfl)
              · have h_53 := it_t h_53 c_55
                refine lv_aload_n hx hb dX3_shouldBe_46 rfl (lv_at hl 0 rfl) ?_
                refine lv_iload hx hb dX3_shouldBe_47 (lv_at hl 4 rfl) ?_
                obtain ⟨r_57, e_56, h_53⟩ := bo_ex h_53
                refine r_calli (r_runV (rest := [.int w_47]) X hP 0 tw_c0 lk_3 (mt_X3_isKnown l G σ w_48 e_56) (cwV 1 hts (lw_V q2112 q2114 qs92 q113 q2115) rfl rfl rfl ⟨rfl, cdX3_isKnown⟩ ⟨Nat.le_of_ble_eq_true rfl, Nat.le_of_ble_eq_true rfl⟩) rfl hl.1 rfl (Nat.le_of_ble_eq_true rfl) dX3_shouldBe_49 ⟨Nat.le_refl _, Nat.le_refl _⟩) hP (fun H locs hP => ?_)
                refine lv_if_eq (tgt := 65) hx hb dX3_shouldBe_52 (by decide) (fun c_58 => ?_) (fun c_58 => ?_)
                · have h_53 := it_t h_53 c_58
                  refine lv_iconst (v := (0 : Int32)) hx hb dX3_shouldBe_65 (by decide) ?_
                  obtain rfl := Option.some.inj h_53
                  exact hJ_54 _ _ _ hP (lv_sub hl [0, 1, 2, 4] rfl)
                · have h_53 := it_f h_53 c_58
                  refine lv_aload_n hx hb dX3_shouldBe_55 rfl (lv_at hl 0 rfl) ?_
                  refine r_geta X hP 0 tw_c0 lk_3 11 (Nat.le_of_ble_eq_true rfl) q1649 tw_f11 dX3_shouldBe_56 ?_
                  refine lv_iload hx hb dX3_shouldBe_59 (lv_at hl 4 rfl) ?_
                  refine r_iald X hP 7 tw_c7 (ck_in h_53) dX3_shouldBe_61 ?_
                  have h_53 := ck_k h_53
                  refine lv_goto (tgt := 66) hx hb dX3_shouldBe_62 (by decide) ?_
                  obtain rfl := Option.some.inj h_53
                  exact hJ_54 _ _ _ hP (lv_sub hl [0, 1, 2, 4] rfl)
        exact hL_39 _ _ _ _ _ _ h_41 hP (lv_sub hl [2, 3, 4, 1, 0] rfl)
  exact hL_30 _ _ _ _ _ _ h_32 hP (lv_sub hl [2, 1, 0] rfl)
def tw_meet_B146 (rc146 : Int32 → ST → Option (ST)) (w2 : Int32) (σ : ST) : Option (ST) :=
  (if (gI σ 0 6) ≤ w2 then some (σ) else st_ (pI σ 0 28 w2) (fun (σ_48 : ST) => bo (tw_meets σ_48) (fun (σ_51 : ST) => ck (9 : Int32) 10 (bo (tw_decided σ_51) (fun (r_53 : Int32) => ck (2 : Int32) 10 (bo (if r_53 = (lI σ_51 0 50 (2 : Int32)) then some ((0 : Int32)) else some (((1 : Int32) <<< (w2 &&& 31)))) (fun (x_54 : Int32) => ck (9 : Int32) 10 (st_ (aI σ_51 0 50 (9 : Int32) ((lI σ_51 0 50 (9 : Int32)) ||| x_54)) (fun (σ_57 : ST) => (rc146 (w2 + (1 : Int32)) σ_57))))))))))
def tw_meet_K18 (σ : ST)  : Option (Int32 × ST) :=
  bo (tw_isTable σ) (fun (r_5 : Int32) => (if r_5 = 0 then some ((-5 : Int32), σ) else bo (tw_meets σ) (fun (σ_8 : ST) => bo (tw_keepsRows σ_8) (fun (σ_10 : ST) => ck (0 : Int32) 10 (st_ (aI σ_10 0 50 (0 : Int32) (gI σ_10 0 29)) (fun (σ_11 : ST) => ck (1 : Int32) 10 (st_ (aI σ_11 0 50 (1 : Int32) (gI σ_11 0 30)) (fun (σ_13 : ST) => bo (tw_decided σ_13) (fun (r_16 : Int32) => ck (2 : Int32) 10 (st_ (aI σ_13 0 50 (2 : Int32) r_16) (fun (σ_17 : ST) => bo (tw_heldBack σ_17) (fun (r_20 : Int32) => ck (3 : Int32) 10 (st_ (aI σ_17 0 50 (3 : Int32) r_20) (fun (σ_21 : ST) => bo (tw_decided σ_21) (fun (r_24 : Int32) => bo (tw_shouldBe σ_21) (fun (r_26 : Int32) => ck (4 : Int32) 10 (st_ (aI σ_21 0 50 (4 : Int32) (r_24 ^^^ r_26)) (fun (σ_27 : ST) => bo (tw_aloneSaid σ_27 (0 : Int32)) (fun (r_30 : Int32) => ck (5 : Int32) 10 (st_ (aI σ_27 0 50 (5 : Int32) r_30) (fun (σ_31 : ST) => bo (tw_aloneSaid σ_31 (1 : Int32)) (fun (r_34 : Int32) => ck (6 : Int32) 10 (st_ (aI σ_31 0 50 (6 : Int32) r_34) (fun (σ_35 : ST) => bo (tw_cost σ_35) (fun (r_38 : Int32) => ck (7 : Int32) 10 (st_ (aI σ_35 0 50 (7 : Int32) r_38) (fun (σ_39 : ST) => bo (tw_shed σ_39) (fun (r_42 : Int32) => ck (8 : Int32) 10 (st_ (aI σ_39 0 50 (8 : Int32) r_42) (fun (σ_43 : ST) => ck (9 : Int32) 10 (st_ (aI σ_43 0 50 (9 : Int32) (0 : Int32)) (fun (σ_45 : ST) => bo (wl2 (tw_meet_B146 ) FU (0 : Int32) σ_45) (fun (σ_61 : ST) => ck (0 : Int32) 10 (some ((lI σ_61 0 50 (0 : Int32)), σ_61)))))))))))))))))))))))))))))))))))
def tw_meet (σ : ST) (a1 : Int32) : Option (Int32 × ST) :=
  bo (tw_plain σ) (fun (σ_2 : ST) => (if a1 = 0 then (tw_meet_K18 σ_2 ) else bo2 (tw_isOrder σ_2 a1) (fun (r_148 : Int32) (σ_149 : ST) => (if r_148 = 0 then some ((-1 : Int32), σ_149) else (tw_meet_K18 σ_149 )))))
abbrev rm_X3_meet : Room := rmf 58 1332
set_option maxHeartbeats 4000000 in
set_option maxRecDepth 100000 in
theorem mt_X3_meet (l : Launch) (G : GT) (σ : ST) (a1 : Int32) {r : Int32} {u : ST} (h : tw_meet σ a1 = some (r, u)) : CI l tw_ft G yX3_meet (ws_ yX3_meet cX3_meet 3 (some .int)) rm_X3_meet 0 0 [.ref (G.2.2.1 0), .int a1] σ (r, u) := by
  refine m_enterI (by decide) rfl (lv := [(0, .ref (G.2.2.1 0)), (1, .int a1)]) rfl ?_
  intro p e s m args below meth c H locs ls Q X hret hP hl
  have hx := X.1.1
  have hb := X.1.2.1
  have hown := X.1.2.2.2.1
  have hts := X.1.2.2.2.2
  unfold tw_meet at h
  refine lv_aload_n hx hb dX3_meet_0 rfl (lv_at hl 0 rfl) ?_
  obtain ⟨σ_2, e_1, h⟩ := bo_ex h
  refine r_callv (r_runV (rest := []) X hP 0 tw_c0 lk_3 (mt_X3_plain l G σ e_1) (cwV 0 hts (lw_V q2004 q2006 qs65 q113 q2007) rfl rfl rfl ⟨rfl, cdX3_plain⟩ ⟨Nat.le_of_ble_eq_true rfl, Nat.le_of_ble_eq_true rfl⟩) rfl hl.1 rfl (Nat.le_of_ble_eq_true rfl) dX3_meet_1 ⟨Nat.le_refl _, Nat.le_refl _⟩) hP (fun H locs hP => ?_)
  refine lv_iload_n hx hb dX3_meet_4 rfl (lv_at hl 1 rfl) ?_
  have hK_3 : ∀ (σ_81 : ST) (H : Heap) (locs : List Loc) (ls : Array Slot), tw_meet_K18 σ_81  = some (r, u) → PS tw_ft G s σ_81 H locs → lv_has ls 3 [(0, .ref (G.2.2.1 0))] → W p l e rm_X3_meet s m args below meth c H locs 0 0 Q (F0 m 18 ls []) := by
    intro σ_81 H locs ls h hP hl
    unfold tw_meet_K18 at h
    refine lv_aload_n hx hb dX3_meet_18 rfl (lv_at hl 0 rfl) ?_
    obtain ⟨r_83, e_82, h⟩ := bo_ex h
    refine r_calli (r_runV (rest := []) X hP 0 tw_c0 lk_3 (mt_X3_isTable l G σ_81 e_82) (cwV 0 hts (lw_V q2012 q2014 qs67 q113 q2015) rfl rfl rfl ⟨rfl, cdX3_isTable⟩ ⟨Nat.le_of_ble_eq_true rfl, Nat.le_of_ble_eq_true rfl⟩) rfl hl.1 rfl (Nat.le_of_ble_eq_true rfl) dX3_meet_19 ⟨Nat.le_refl _, Nat.le_refl _⟩) hP (fun H locs hP => ?_)
    refine lv_if_ne (tgt := 28) hx hb dX3_meet_22 (by decide) (fun c_84 => ?_) (fun c_84 => ?_)
    · have h := it_f h c_84
      refine lv_aload_n hx hb dX3_meet_28 rfl (lv_at hl 0 rfl) ?_
      obtain ⟨σ_86, e_85, h⟩ := bo_ex h
      refine r_callv (r_runV (rest := []) X hP 0 tw_c0 lk_3 (mt_X3_meets l G σ_81 e_85) (cwV 0 hts (lw_V q2016 q2018 qs68 q113 q2019) rfl rfl rfl ⟨rfl, cdX3_meets⟩ ⟨Nat.le_of_ble_eq_true rfl, Nat.le_of_ble_eq_true rfl⟩) rfl hl.1 rfl (Nat.le_of_ble_eq_true rfl) dX3_meet_29 ⟨Nat.le_refl _, Nat.le_refl _⟩) hP (fun H locs hP => ?_)
      refine lv_aload_n hx hb dX3_meet_32 rfl (lv_at hl 0 rfl) ?_
      obtain ⟨σ_88, e_87, h⟩ := bo_ex h
      refine r_callv (r_runV (rest := []) X hP 0 tw_c0 lk_3 (mt_X3_keepsRows l G σ_86 e_87) (cwV 0 hts (lw_V q2088 q2090 qs86 q113 q2091) rfl rfl rfl ⟨rfl, cdX3_keepsRows⟩ ⟨Nat.le_of_ble_eq_true rfl, Nat.le_of_ble_eq_true rfl⟩) rfl hl.1 rfl (Nat.le_of_ble_eq_true rfl) dX3_meet_33 ⟨Nat.le_refl _, Nat.le_refl _⟩) hP (fun H locs hP => ?_)
      refine lv_aload_n hx hb dX3_meet_36 rfl (lv_at hl 0 rfl) ?_
      refine r_geta X hP 0 tw_c0 lk_3 50 (Nat.le_of_ble_eq_true rfl) q1688 tw_f50 dX3_meet_37 ?_
      refine lv_iconst (v := (0 : Int32)) hx hb dX3_meet_40 (by decide) ?_
      refine lv_aload_n hx hb dX3_meet_41 rfl (lv_at hl 0 rfl) ?_
      refine r_geti X hP 0 tw_c0 lk_3 29 (Nat.le_of_ble_eq_true rfl) q1667 tw_f29 dX3_meet_42 ?_
      refine r_iast X tw_w hP 26 tw_c26 (ck_in h) dX3_meet_45 (fun σ_89 H locs e_90 hP => ?_)
      have h := st_k (ck_k h) e_90
      refine lv_aload_n hx hb dX3_meet_46 rfl (lv_at hl 0 rfl) ?_
      refine r_geta X hP 0 tw_c0 lk_3 50 (Nat.le_of_ble_eq_true rfl) q1688 tw_f50 dX3_meet_47 ?_
      refine lv_iconst (v := (1 : Int32)) hx hb dX3_meet_50 (by decide) ?_
      refine lv_aload_n hx hb dX3_meet_51 rfl (lv_at hl 0 rfl) ?_
      refine r_geti X hP 0 tw_c0 lk_3 30 (Nat.le_of_ble_eq_true rfl) q1668 tw_f30 dX3_meet_52 ?_
      refine r_iast X tw_w hP 26 tw_c26 (ck_in h) dX3_meet_55 (fun σ_91 H locs e_92 hP => ?_)
      have h := st_k (ck_k h) e_92
      refine lv_aload_n hx hb dX3_meet_56 rfl (lv_at hl 0 rfl) ?_
      refine r_geta X hP 0 tw_c0 lk_3 50 (Nat.le_of_ble_eq_true rfl) q1688 tw_f50 dX3_meet_57 ?_
      refine lv_iconst (v := (2 : Int32)) hx hb dX3_meet_60 (by decide) ?_
      refine lv_aload_n hx hb dX3_meet_61 rfl (lv_at hl 0 rfl) ?_
      obtain ⟨r_94, e_93, h⟩ := bo_ex h
      refine r_calli (r_runV (rest := [.int (2 : Int32), .ref (G.2.2.1 26)]) X hP 0 tw_c0 lk_3 (mt_X3_decided l G σ_91 e_93) (cwV 0 hts (lw_V q2100 q2102 qs89 q113 q2103) rfl rfl rfl ⟨rfl, cdX3_decided⟩ ⟨Nat.le_of_ble_eq_true rfl, Nat.le_of_ble_eq_true rfl⟩) rfl hl.1 rfl (Nat.le_of_ble_eq_true rfl) dX3_meet_62 ⟨Nat.le_refl _, Nat.le_refl _⟩) hP (fun H locs hP => ?_)
      refine r_iast X tw_w hP 26 tw_c26 (ck_in h) dX3_meet_65 (fun σ_95 H locs e_96 hP => ?_)
      have h := st_k (ck_k h) e_96
      refine lv_aload_n hx hb dX3_meet_66 rfl (lv_at hl 0 rfl) ?_
      refine r_geta X hP 0 tw_c0 lk_3 50 (Nat.le_of_ble_eq_true rfl) q1688 tw_f50 dX3_meet_67 ?_
      refine lv_iconst (v := (3 : Int32)) hx hb dX3_meet_70 (by decide) ?_
      refine lv_aload_n hx hb dX3_meet_71 rfl (lv_at hl 0 rfl) ?_
      obtain ⟨r_98, e_97, h⟩ := bo_ex h
      refine r_calli (r_runV (rest := [.int (3 : Int32), .ref (G.2.2.1 26)]) X hP 0 tw_c0 lk_3 (mt_X3_heldBack l G σ_95 e_97) (cwV 0 hts (lw_V q2104 q2106 qs90 q113 q2107) rfl rfl rfl ⟨rfl, cdX3_heldBack⟩ ⟨Nat.le_of_ble_eq_true rfl, Nat.le_of_ble_eq_true rfl⟩) rfl hl.1 rfl (Nat.le_of_ble_eq_true rfl) dX3_meet_72 ⟨Nat.le_refl _, Nat.le_refl _⟩) hP (fun H locs hP => ?_)
      refine r_iast X tw_w hP 26 tw_c26 (ck_in h) dX3_meet_75 (fun σ_99 H locs e_100 hP => ?_)
      have h := st_k (ck_k h) e_100
      refine lv_aload_n hx hb dX3_meet_76 rfl (lv_at hl 0 rfl) ?_
      refine r_geta X hP 0 tw_c0 lk_3 50 (Nat.le_of_ble_eq_true rfl) q1688 tw_f50 dX3_meet_77 ?_
      refine lv_iconst (v := (4 : Int32)) hx hb dX3_meet_80 (by decide) ?_
      refine lv_aload_n hx hb dX3_meet_81 rfl (lv_at hl 0 rfl) ?_
      obtain ⟨r_102, e_101, h⟩ := bo_ex h
      refine r_calli (r_runV (rest := [.int (4 : Int32), .ref (G.2.2.1 26)]) X hP 0 tw_c0 lk_3 (mt_X3_decided l G σ_99 e_101) (cwV 0 hts (lw_V q2100 q2102 qs89 q113 q2103) rfl rfl rfl ⟨rfl, cdX3_decided⟩ ⟨Nat.le_of_ble_eq_true rfl, Nat.le_of_ble_eq_true rfl⟩) rfl hl.1 rfl (Nat.le_of_ble_eq_true rfl) dX3_meet_82 ⟨Nat.le_refl _, Nat.le_refl _⟩) hP (fun H locs hP => ?_)
      refine lv_aload_n hx hb dX3_meet_85 rfl (lv_at hl 0 rfl) ?_
      obtain ⟨r_104, e_103, h⟩ := bo_ex h
      refine r_calli (r_runV (rest := [.int r_102, .int (4 : Int32), .ref (G.2.2.1 26)]) X hP 0 tw_c0 lk_3 (mt_X3_shouldBe l G σ_99 e_103) (cwV 0 hts (lw_V q2108 q2110 qs91 q113 q2111) rfl rfl rfl ⟨rfl, cdX3_shouldBe⟩ ⟨Nat.le_of_ble_eq_true rfl, Nat.le_of_ble_eq_true rfl⟩) rfl hl.1 rfl (Nat.le_of_ble_eq_true rfl) dX3_meet_86 ⟨Nat.le_refl _, Nat.le_refl _⟩) hP (fun H locs hP => ?_)
      refine lv_ixor hx hb dX3_meet_89 ?_
      refine r_iast X tw_w hP 26 tw_c26 (ck_in h) dX3_meet_90 (fun σ_105 H locs e_106 hP => ?_)
      have h := st_k (ck_k h) e_106
      refine lv_aload_n hx hb dX3_meet_91 rfl (lv_at hl 0 rfl) ?_
      refine r_geta X hP 0 tw_c0 lk_3 50 (Nat.le_of_ble_eq_true rfl) q1688 tw_f50 dX3_meet_92 ?_
      refine lv_iconst (v := (5 : Int32)) hx hb dX3_meet_95 (by decide) ?_
      refine lv_aload_n hx hb dX3_meet_96 rfl (lv_at hl 0 rfl) ?_
      refine lv_iconst (v := (0 : Int32)) hx hb dX3_meet_97 (by decide) ?_
      obtain ⟨r_108, e_107, h⟩ := bo_ex h
      refine r_calli (r_runV (rest := [.int (5 : Int32), .ref (G.2.2.1 26)]) X hP 0 tw_c0 lk_3 (mt_X3_aloneSaid l G σ_105 (0 : Int32) e_107) (cwV 1 hts (lw_V q2116 q2118 qs93 q113 q2119) rfl rfl rfl ⟨rfl, cdX3_aloneSaid⟩ ⟨Nat.le_of_ble_eq_true rfl, Nat.le_of_ble_eq_true rfl⟩) rfl hl.1 rfl (Nat.le_of_ble_eq_true rfl) dX3_meet_98 ⟨Nat.le_refl _, Nat.le_refl _⟩) hP (fun H locs hP => ?_)
      refine r_iast X tw_w hP 26 tw_c26 (ck_in h) dX3_meet_101 (fun σ_109 H locs e_110 hP => ?_)
      have h := st_k (ck_k h) e_110
      refine lv_aload_n hx hb dX3_meet_102 rfl (lv_at hl 0 rfl) ?_
      refine r_geta X hP 0 tw_c0 lk_3 50 (Nat.le_of_ble_eq_true rfl) q1688 tw_f50 dX3_meet_103 ?_
      refine lv_bipush (v := (6 : Int32)) hx hb dX3_meet_106 (by decide) ?_
      refine lv_aload_n hx hb dX3_meet_108 rfl (lv_at hl 0 rfl) ?_
      refine lv_iconst (v := (1 : Int32)) hx hb dX3_meet_109 (by decide) ?_
      obtain ⟨r_112, e_111, h⟩ := bo_ex h
      refine r_calli (r_runV (rest := [.int (6 : Int32), .ref (G.2.2.1 26)]) X hP 0 tw_c0 lk_3 (mt_X3_aloneSaid l G σ_109 (1 : Int32) e_111) (cwV 1 hts (lw_V q2116 q2118 qs93 q113 q2119) rfl rfl rfl ⟨rfl, cdX3_aloneSaid⟩ ⟨Nat.le_of_ble_eq_true rfl, Nat.le_of_ble_eq_true rfl⟩) rfl hl.1 rfl (Nat.le_of_ble_eq_true rfl) dX3_meet_110 ⟨Nat.le_refl _, Nat.le_refl _⟩) hP (fun H locs hP => ?_)
      refine r_iast X tw_w hP 26 tw_c26 (ck_in h) dX3_meet_113 (fun σ_113 H locs e_114 hP => ?_)
      have h := st_k (ck_k h) e_114
      refine lv_aload_n hx hb dX3_meet_114 rfl (lv_at hl 0 rfl) ?_
      refine r_geta X hP 0 tw_c0 lk_3 50 (Nat.le_of_ble_eq_true rfl) q1688 tw_f50 dX3_meet_115 ?_
      refine lv_bipush (v := (7 : Int32)) hx hb dX3_meet_118 (by decide) ?_
      refine lv_aload_n hx hb dX3_meet_120 rfl (lv_at hl 0 rfl) ?_
      obtain ⟨r_116, e_115, h⟩ := bo_ex h
      refine r_calli (r_runV (rest := [.int (7 : Int32), .ref (G.2.2.1 26)]) X hP 0 tw_c0 lk_3 (mt_X3_cost l G σ_113 e_115) (cwV 0 hts (lw_V q2127 q2129 qs95 q113 q2130) rfl rfl rfl ⟨rfl, cdX3_cost⟩ ⟨Nat.le_of_ble_eq_true rfl, Nat.le_of_ble_eq_true rfl⟩) rfl hl.1 rfl (Nat.le_of_ble_eq_true rfl) dX3_meet_121 ⟨Nat.le_refl _, Nat.le_refl _⟩) hP (fun H locs hP => ?_)
      refine r_iast X tw_w hP 26 tw_c26 (ck_in h) dX3_meet_124 (fun σ_117 H locs e_118 hP => ?_)
      have h := st_k (ck_k h) e_118
      refine lv_aload_n hx hb dX3_meet_125 rfl (lv_at hl 0 rfl) ?_
      refine r_geta X hP 0 tw_c0 lk_3 50 (Nat.le_of_ble_eq_true rfl) q1688 tw_f50 dX3_meet_126 ?_
      refine lv_bipush (v := (8 : Int32)) hx hb dX3_meet_129 (by decide) ?_
      refine lv_aload_n hx hb dX3_meet_131 rfl (lv_at hl 0 rfl) ?_
      obtain ⟨r_120, e_119, h⟩ := bo_ex h
      refine r_calli (r_runV (rest := [.int (8 : Int32), .ref (G.2.2.1 26)]) X hP 0 tw_c0 lk_3 (mt_X3_shed l G σ_117 e_119) (cwV 0 hts (lw_V q2131 q2133 qs96 q113 q2134) rfl rfl rfl ⟨rfl, cdX3_shed⟩ ⟨Nat.le_of_ble_eq_true rfl, Nat.le_of_ble_eq_true rfl⟩) rfl hl.1 rfl (Nat.le_of_ble_eq_true rfl) dX3_meet_132 ⟨Nat.le_refl _, Nat.le_refl _⟩) hP (fun H locs hP => ?_)
      refine r_iast X tw_w hP 26 tw_c26 (ck_in h) dX3_meet_135 (fun σ_121 H locs e_122 hP => ?_)
      have h := st_k (ck_k h) e_122
      refine lv_aload_n hx hb dX3_meet_136 rfl (lv_at hl 0 rfl) ?_
      refine r_geta X hP 0 tw_c0 lk_3 50 (Nat.le_of_ble_eq_true rfl) q1688 tw_f50 dX3_meet_137 ?_
      refine lv_bipush (v := (9 : Int32)) hx hb dX3_meet_140 (by decide) ?_
      refine lv_iconst (v := (0 : Int32)) hx hb dX3_meet_142 (by decide) ?_
      refine r_iast X tw_w hP 26 tw_c26 (ck_in h) dX3_meet_143 (fun σ_123 H locs e_124 hP => ?_)
      have h := st_k (ck_k h) e_124
      refine lv_iconst (v := (0 : Int32)) hx hb dX3_meet_144 (by decide) ?_
      refine lv_istore_n (lv' := [(2, .int (0 : Int32)), (0, .ref (G.2.2.1 0))]) hx hb dX3_meet_145 rfl hl (by decide) rfl (fun ls hl => ?_)
      obtain ⟨σ_126, h_127, h⟩ := bo_ex h
      have hE_128 : ∀ (H : Heap) (locs : List Loc) (ls : Array Slot), PS tw_ft G s σ_126 H locs → lv_has ls 3 [(0, .ref (G.2.2.1 0))] → W p l e rm_X3_meet s m args below meth c H locs 0 0 Q (F0 m 199 ls []) := by
        intro H locs ls hP hl
        refine lv_aload_n hx hb dX3_meet_199 rfl (lv_at hl 0 rfl) ?_
        refine r_geta X hP 0 tw_c0 lk_3 50 (Nat.le_of_ble_eq_true rfl) q1688 tw_f50 dX3_meet_200 ?_
        refine lv_iconst (v := (0 : Int32)) hx hb dX3_meet_203 (by decide) ?_
        refine r_iald X hP 26 tw_c26 (ck_in h) dX3_meet_204 ?_
        have h := ck_k h
        exact hret _ _ _ _ _ _ dX3_meet_205 rfl (Option.some.inj h) hP
      have hL_125 : ∀ (n : Nat) (w_129 : Int32) (σ_130 : ST) (H : Heap) (locs : List Loc) (ls : Array Slot), wl2 (tw_meet_B146 ) n w_129 σ_130 = some σ_126 → PS tw_ft G s σ_130 H locs → lv_has ls 3 [(0, .ref (G.2.2.1 0)), (2, .int w_129)] → W p l e rm_X3_meet s m args below meth c H locs 0 0 Q (F0 m 146 ls []) := by
        intro n
        induction n with
        | zero => intro w_129 σ_130 H locs ls h_131; cases h_131
        | succ n ih =>
          intro w_129 σ_130 H locs ls h_131 hP hl
          have h_131 : tw_meet_B146  (wl2 (tw_meet_B146 ) n) w_129 σ_130 = some _ := h_131
          generalize wl2 (tw_meet_B146 ) n = rc_132 at h_131 ih
          unfold tw_meet_B146 at h_131
          refine lv_iload_n hx hb dX3_meet_146 rfl (lv_at hl 1 rfl) ?_
          refine lv_aload_n hx hb dX3_meet_147 rfl (lv_at hl 0 rfl) ?_
          refine r_geti X hP 0 tw_c0 lk_3 6 (Nat.le_of_ble_eq_true rfl) q1644 tw_f6 dX3_meet_148 ?_
          refine lv_icmp_ge (tgt := 199) hx hb dX3_meet_151 (by decide) (fun c_133 => ?_) (fun c_133 => ?_)
          · have h_131 := it_t h_131 c_133
            obtain rfl := Option.some.inj h_131
            exact hE_128 _ _ _ hP (lv_sub hl [0] rfl)
          · have h_131 := it_f h_131 c_133
            refine lv_aload_n hx hb dX3_meet_154 rfl (lv_at hl 0 rfl) ?_
            refine lv_iload_n hx hb dX3_meet_155 rfl (lv_at hl 1 rfl) ?_
            refine r_puti X tw_w hP 0 tw_c0 lk_3 28 (Nat.le_of_ble_eq_true rfl) q1666 tw_f28 rfl (tyX3_ok 28 (by decide)) rfl rfl dX3_meet_156 (fun σ_134 H locs e_135 hP => ?_)
            have h_131 := st_k h_131 e_135
            refine lv_aload_n hx hb dX3_meet_159 rfl (lv_at hl 0 rfl) ?_
            obtain ⟨σ_137, e_136, h_131⟩ := bo_ex h_131
            refine r_callv (r_runV (rest := []) X hP 0 tw_c0 lk_3 (mt_X3_meets l G σ_134 e_136) (cwV 0 hts (lw_V q2016 q2018 qs68 q113 q2019) rfl rfl rfl ⟨rfl, cdX3_meets⟩ ⟨Nat.le_of_ble_eq_true rfl, Nat.le_of_ble_eq_true rfl⟩) rfl hl.1 rfl (Nat.le_of_ble_eq_true rfl) dX3_meet_160 ⟨Nat.le_refl _, Nat.le_refl _⟩) hP (fun H locs hP => ?_)
            refine lv_aload_n hx hb dX3_meet_163 rfl (lv_at hl 0 rfl) ?_
            refine r_geta X hP 0 tw_c0 lk_3 50 (Nat.le_of_ble_eq_true rfl) q1688 tw_f50 dX3_meet_164 ?_
            refine lv_bipush (v := (9 : Int32)) hx hb dX3_meet_167 (by decide) ?_
            refine lv_dup2_11 hx hb dX3_meet_169 rfl rfl ?_
            refine r_iald X hP 26 tw_c26 (ck_in h_131) dX3_meet_170 ?_
            have h_131 := ck_k h_131
            refine lv_aload_n hx hb dX3_meet_171 rfl (lv_at hl 0 rfl) ?_
            obtain ⟨r_139, e_138, h_131⟩ := bo_ex h_131
            refine r_calli (r_runV (rest := [.int (lI σ_137 0 50 (9 : Int32)), .int (9 : Int32), .ref (G.2.2.1 26)]) X hP 0 tw_c0 lk_3 (mt_X3_decided l G σ_137 e_138) (cwV 0 hts (lw_V q2100 q2102 qs89 q113 q2103) rfl rfl rfl ⟨rfl, cdX3_decided⟩ ⟨Nat.le_of_ble_eq_true rfl, Nat.le_of_ble_eq_true rfl⟩) rfl hl.1 rfl (Nat.le_of_ble_eq_true rfl) dX3_meet_172 ⟨Nat.le_refl _, Nat.le_refl _⟩) hP (fun H locs hP => ?_)
            refine lv_aload_n hx hb dX3_meet_175 rfl (lv_at hl 0 rfl) ?_
            refine r_geta X hP 0 tw_c0 lk_3 50 (Nat.le_of_ble_eq_true rfl) q1688 tw_f50 dX3_meet_176 ?_
            refine lv_iconst (v := (2 : Int32)) hx hb dX3_meet_179 (by decide) ?_
            refine r_iald X hP 26 tw_c26 (ck_in h_131) dX3_meet_180 ?_
            have h_131 := ck_k h_131
            obtain ⟨x_140, h_141, h_131⟩ := bo_ex h_131
            have hJ_142 : ∀ (H : Heap) (locs : List Loc) (ls : Array Slot), PS tw_ft G s σ_137 H locs → lv_has ls 3 [(0, .ref (G.2.2.1 0)), (2, .int w_129)] → W p l e rm_X3_meet s m args below meth c H locs 0 0 Q (F0 m 191 ls [.int x_140, .int (lI σ_137 0 50 (9 : Int32)), .int (9 : Int32), .ref (G.2.2.1 26)]) := by
              intro H locs ls hP hl
              refine lv_ior hx hb dX3_meet_191 ?_
              refine r_iast X tw_w hP 26 tw_c26 (ck_in h_131) dX3_meet_192 (fun σ_143 H locs e_144 hP => ?_)
              have h_131 := st_k (ck_k h_131) e_144
              refine lv_iinc (v := (w_129 + (1 : Int32))) (lv' := [(2, .int (w_129 + (1 : Int32))), (0, .ref (G.2.2.1 0))]) hx hb dX3_meet_193 hl (k := 1) rfl rfl (by decide) rfl (fun ls hl => ?_)
              refine lv_goto (tgt := 146) hx hb dX3_meet_196 (by decide) ?_
              exact ih _ _ _ _ _ h_131 hP (lv_sub hl [1, 0] rfl)
            refine lv_icmp_eq (tgt := 190) hx hb dX3_meet_181 (by decide) (fun c_145 => ?_) (fun c_145 => ?_)
            · have h_141 := it_t h_141 c_145
              refine lv_iconst (v := (0 : Int32)) hx hb dX3_meet_190 (by decide) ?_
              obtain rfl := Option.some.inj h_141
              exact hJ_142 _ _ _ hP (lv_sub hl [0, 1] rfl)
            · have h_141 := it_f h_141 c_145
              refine lv_iconst (v := (1 : Int32)) hx hb dX3_meet_184 (by decide) ?_
              refine lv_iload_n hx hb dX3_meet_185 rfl (lv_at hl 1 rfl) ?_
              refine lv_ishl hx hb dX3_meet_186 ?_
              refine lv_goto (tgt := 191) hx hb dX3_meet_187 (by decide) ?_
              obtain rfl := Option.some.inj h_141
              exact hJ_142 _ _ _ hP (lv_sub hl [0, 1] rfl)
      exact hL_125 _ _ _ _ _ _ h_127 hP (lv_sub hl [1, 0] rfl)
    · have h := it_t h c_84
      refine lv_bipush (v := (-5 : Int32)) hx hb dX3_meet_25 (by decide) ?_
      exact hret _ _ _ _ _ _ dX3_meet_27 rfl (Option.some.inj h) hP
  refine lv_if_eq (tgt := 18) hx hb dX3_meet_5 (by decide) (fun c_146 => ?_) (fun c_146 => ?_)
  · have h := it_t h c_146
    exact hK_3 _ _ _ _ h hP (lv_sub hl [0] rfl)
  · have h := it_f h c_146
    refine lv_aload_n hx hb dX3_meet_8 rfl (lv_at hl 0 rfl) ?_
    refine lv_iload_n hx hb dX3_meet_9 rfl (lv_at hl 1 rfl) ?_
    obtain ⟨r_148, σ_149, e_147, h⟩ := bo2_ex h
    refine r_calli (r_runV (rest := []) X hP 0 tw_c0 lk_3 (mt_X3_isOrder l G σ_2 a1 e_147) (cwV 1 hts (lw_V q2008 q2010 qs66 q113 q2011) rfl rfl rfl ⟨rfl, cdX3_isOrder⟩ ⟨Nat.le_of_ble_eq_true rfl, Nat.le_of_ble_eq_true rfl⟩) rfl hl.1 rfl (Nat.le_of_ble_eq_true rfl) dX3_meet_10 ⟨Nat.le_refl _, Nat.le_refl _⟩) hP (fun H locs hP => ?_)
    refine lv_if_ne (tgt := 18) hx hb dX3_meet_13 (by decide) (fun c_150 => ?_) (fun c_150 => ?_)
    · have h := it_f h c_150
      exact hK_3 _ _ _ _ h hP (lv_sub hl [0] rfl)
    · have h := it_t h c_150
      refine lv_iconst (v := (-1 : Int32)) hx hb dX3_meet_16 (by decide) ?_
      exact hret _ _ _ _ _ _ dX3_meet_17 rfl (Option.some.inj h) hP
def tw_told (σ : ST) (a1 : Int32) : Option Int32 :=
  bo (tw_within ((a1).toInt64) (0 : Int64) (9 : Int64)) (fun (r_2 : Int32) => (if r_2 = 0 then some (-1 : Int32) else (if 0 ≤ (gI σ 0 46) then ck a1 10 (some (lI σ 0 50 a1)) else some (-5 : Int32))))
abbrev rm_X3_told : Room := rmf 1 25
set_option maxHeartbeats 4000000 in
set_option maxRecDepth 100000 in
theorem mt_X3_told (l : Launch) (G : GT) (σ : ST) (a1 : Int32) {r : Int32} (h : tw_told σ a1 = some r) : CI l tw_ft G yX3_told (ws_ yX3_told cX3_told 2 (some .int)) rm_X3_told 0 0 [.ref (G.2.2.1 0), .int a1] σ (r, σ) := by
  refine m_enterI (by decide) rfl (lv := [(0, .ref (G.2.2.1 0)), (1, .int a1)]) rfl ?_
  intro p e s m args below meth c H locs ls Q X hret hP hl
  have hx := X.1.1
  have hb := X.1.2.1
  have hown := X.1.2.2.2.1
  have hts := X.1.2.2.2.2
  unfold tw_told at h
  refine lv_iload_n hx hb dX3_told_0 rfl (lv_at hl 1 rfl) ?_
  refine lv_i2l hx hb dX3_told_1 rfl ?_
  refine lv_lconst (v := (0 : Int64)) hx hb dX3_told_2 (by decide) ?_
  refine lv_ldc2 hx hb hown (hts _ q1895) dX3_told_3 ?_
  obtain ⟨r_2, e_1, h⟩ := bo_ex h
  refine r_calli (r_runS (rest := []) X hP (mt_X3_within l G σ ((a1).toInt64) (0 : Int64) (9 : Int64) e_1) (va_cwS 3 hts (lw_S q1880 q1881 q113 q1882) rfl rfl rfl cdX3_within ⟨Nat.le_of_ble_eq_true rfl, Nat.le_of_ble_eq_true rfl⟩) rfl hl.1 rfl (Nat.le_of_ble_eq_true rfl) dX3_told_6 ⟨Nat.le_refl _, Nat.le_refl _⟩) hP (fun H locs hP => ?_)
  refine lv_if_ne (tgt := 16) hx hb dX3_told_9 (by decide) (fun c_3 => ?_) (fun c_3 => ?_)
  · have h := it_f h c_3
    refine lv_aload_n hx hb dX3_told_16 rfl (lv_at hl 0 rfl) ?_
    refine r_geti X hP 0 tw_c0 lk_3 46 (Nat.le_of_ble_eq_true rfl) q1684 tw_f46 dX3_told_17 ?_
    refine lv_if_ge (tgt := 28) hx hb dX3_told_20 (by decide) (fun c_4 => ?_) (fun c_4 => ?_)
    · have h := it_t h c_4
      refine lv_aload_n hx hb dX3_told_28 rfl (lv_at hl 0 rfl) ?_
      refine r_geta X hP 0 tw_c0 lk_3 50 (Nat.le_of_ble_eq_true rfl) q1688 tw_f50 dX3_told_29 ?_
      refine lv_iload_n hx hb dX3_told_32 rfl (lv_at hl 1 rfl) ?_
      refine r_iald X hP 26 tw_c26 (ck_in h) dX3_told_33 ?_
      have h := ck_k h
      exact hret _ _ _ _ _ _ dX3_told_34 rfl (congrArg (fun z9 => (z9, σ)) (Option.some.inj h)) hP
    · have h := it_f h c_4
      refine lv_bipush (v := (-5 : Int32)) hx hb dX3_told_23 (by decide) ?_
      refine lv_goto (tgt := 34) hx hb dX3_told_25 (by decide) ?_
      exact hret _ _ _ _ _ _ dX3_told_34 rfl (congrArg (fun z9 => (z9, σ)) (Option.some.inj h)) hP
  · have h := it_t h c_3
    refine lv_iconst (v := (-1 : Int32)) hx hb dX3_told_12 (by decide) ?_
    refine lv_goto (tgt := 34) hx hb dX3_told_13 (by decide) ?_
    exact hret _ _ _ _ _ _ dX3_told_34 rfl (congrArg (fun z9 => (z9, σ)) (Option.some.inj h)) hP
def tw_saying (σ : ST) (a1 : Int32) (a2 : Int32) : Option Int32 :=
  bo (tw_within ((a2).toInt64) (0 : Int64) (6 : Int64)) (fun (r_2 : Int32) => (if r_2 = 0 then some (-1 : Int32) else (if 0 ≤ (gI σ 0 46) then bo (tw_within ((a1).toInt64) (0 : Int64) ((((gI σ 0 46) - (1 : Int32))).toInt64)) (fun (r_6 : Int32) => (if r_6 = 0 then some (-1 : Int32) else (if a2 = (0 : Int32) then ck a1 200 (some (lI σ 0 51 a1)) else (if a2 = (1 : Int32) then ck a1 200 (some (lI σ 0 52 a1)) else (if a2 = (2 : Int32) then ck a1 200 (some (lI σ 0 53 a1)) else (if a2 = (3 : Int32) then ck a1 200 (some (lI σ 0 54 a1)) else (if a2 = (4 : Int32) then ck a1 200 (some (lI σ 0 55 a1)) else (if a2 = (5 : Int32) then ck a1 200 (some (lI σ 0 56 a1)) else (if a2 = (6 : Int32) then ck a1 200 (some (lI σ 0 57 a1)) else some (-1 : Int32)))))))))) else some (-5 : Int32))))
abbrev rm_X3_saying : Room := rmf 1 25
set_option maxHeartbeats 4000000 in
set_option maxRecDepth 100000 in
theorem mt_X3_saying (l : Launch) (G : GT) (σ : ST) (a1 : Int32) (a2 : Int32) {r : Int32} (h : tw_saying σ a1 a2 = some r) : CI l tw_ft G yX3_saying (ws_ yX3_saying cX3_saying 3 (some .int)) rm_X3_saying 0 0 [.ref (G.2.2.1 0), .int a1, .int a2] σ (r, σ) := by
  refine m_enterI (by decide) rfl (lv := [(0, .ref (G.2.2.1 0)), (1, .int a1), (2, .int a2)]) rfl ?_
  intro p e s m args below meth c H locs ls Q X hret hP hl
  have hx := X.1.1
  have hb := X.1.2.1
  have hown := X.1.2.2.2.1
  have hts := X.1.2.2.2.2
  unfold tw_saying at h
  refine lv_iload_n hx hb dX3_saying_0 rfl (lv_at hl 2 rfl) ?_
  refine lv_i2l hx hb dX3_saying_1 rfl ?_
  refine lv_lconst (v := (0 : Int64)) hx hb dX3_saying_2 (by decide) ?_
  refine lv_ldc2 hx hb hown (hts _ q2146) dX3_saying_3 ?_
  obtain ⟨r_2, e_1, h⟩ := bo_ex h
  refine r_calli (r_runS (rest := []) X hP (mt_X3_within l G σ ((a2).toInt64) (0 : Int64) (6 : Int64) e_1) (va_cwS 3 hts (lw_S q1880 q1881 q113 q1882) rfl rfl rfl cdX3_within ⟨Nat.le_of_ble_eq_true rfl, Nat.le_of_ble_eq_true rfl⟩) rfl hl.1 rfl (Nat.le_of_ble_eq_true rfl) dX3_saying_6 ⟨Nat.le_refl _, Nat.le_refl _⟩) hP (fun H locs hP => ?_)
  refine lv_if_ne (tgt := 14) hx hb dX3_saying_9 (by decide) (fun c_3 => ?_) (fun c_3 => ?_)
  · have h := it_f h c_3
    refine lv_aload_n hx hb dX3_saying_14 rfl (lv_at hl 0 rfl) ?_
    refine r_geti X hP 0 tw_c0 lk_3 46 (Nat.le_of_ble_eq_true rfl) q1684 tw_f46 dX3_saying_15 ?_
    refine lv_if_ge (tgt := 24) hx hb dX3_saying_18 (by decide) (fun c_4 => ?_) (fun c_4 => ?_)
    · have h := it_t h c_4
      refine lv_iload_n hx hb dX3_saying_24 rfl (lv_at hl 1 rfl) ?_
      refine lv_i2l hx hb dX3_saying_25 rfl ?_
      refine lv_lconst (v := (0 : Int64)) hx hb dX3_saying_26 (by decide) ?_
      refine lv_aload_n hx hb dX3_saying_27 rfl (lv_at hl 0 rfl) ?_
      refine r_geti X hP 0 tw_c0 lk_3 46 (Nat.le_of_ble_eq_true rfl) q1684 tw_f46 dX3_saying_28 ?_
      refine lv_iconst (v := (1 : Int32)) hx hb dX3_saying_31 (by decide) ?_
      refine lv_isub hx hb dX3_saying_32 ?_
      refine lv_i2l hx hb dX3_saying_33 rfl ?_
      obtain ⟨r_6, e_5, h⟩ := bo_ex h
      refine r_calli (r_runS (rest := []) X hP (mt_X3_within l G σ ((a1).toInt64) (0 : Int64) ((((gI σ 0 46) - (1 : Int32))).toInt64) e_5) (va_cwS 3 hts (lw_S q1880 q1881 q113 q1882) rfl rfl rfl cdX3_within ⟨Nat.le_of_ble_eq_true rfl, Nat.le_of_ble_eq_true rfl⟩) rfl hl.1 rfl (Nat.le_of_ble_eq_true rfl) dX3_saying_34 ⟨Nat.le_refl _, Nat.le_refl _⟩) hP (fun H locs hP => ?_)
      refine lv_if_ne (tgt := 42) hx hb dX3_saying_37 (by decide) (fun c_7 => ?_) (fun c_7 => ?_)
      · have h := it_f h c_7
        refine lv_iload_n hx hb dX3_saying_42 rfl (lv_at hl 2 rfl) ?_
        by_cases c_8 : a2 = (0 : Int32)
        · have h := it_t h c_8
          refine lv_tableIn (tgt := 84) hx hb dX3_saying_43 (by rw [c_8]; decide) (by rw [c_8]; decide) (by rw [c_8]; rfl) (by decide) ?_
          refine lv_aload_n hx hb dX3_saying_84 rfl (lv_at hl 0 rfl) ?_
          refine r_geta X hP 0 tw_c0 lk_3 51 (Nat.le_of_ble_eq_true rfl) q1689 tw_f51 dX3_saying_85 ?_
          refine lv_iload_n hx hb dX3_saying_88 rfl (lv_at hl 1 rfl) ?_
          refine r_iald X hP 27 tw_c27 (ck_in h) dX3_saying_89 ?_
          have h := ck_k h
          exact hret _ _ _ _ _ _ dX3_saying_90 rfl (congrArg (fun z9 => (z9, σ)) (Option.some.inj h)) hP
        · have h := it_f h c_8
          by_cases c_9 : a2 = (1 : Int32)
          · have h := it_t h c_9
            refine lv_tableIn (tgt := 91) hx hb dX3_saying_43 (by rw [c_9]; decide) (by rw [c_9]; decide) (by rw [c_9]; rfl) (by decide) ?_
            refine lv_aload_n hx hb dX3_saying_91 rfl (lv_at hl 0 rfl) ?_
            refine r_geta X hP 0 tw_c0 lk_3 52 (Nat.le_of_ble_eq_true rfl) q1690 tw_f52 dX3_saying_92 ?_
            refine lv_iload_n hx hb dX3_saying_95 rfl (lv_at hl 1 rfl) ?_
            refine r_iald X hP 28 tw_c28 (ck_in h) dX3_saying_96 ?_
            have h := ck_k h
            exact hret _ _ _ _ _ _ dX3_saying_97 rfl (congrArg (fun z9 => (z9, σ)) (Option.some.inj h)) hP
          · have h := it_f h c_9
            by_cases c_10 : a2 = (2 : Int32)
            · have h := it_t h c_10
              refine lv_tableIn (tgt := 98) hx hb dX3_saying_43 (by rw [c_10]; decide) (by rw [c_10]; decide) (by rw [c_10]; rfl) (by decide) ?_
              refine lv_aload_n hx hb dX3_saying_98 rfl (lv_at hl 0 rfl) ?_
              refine r_geta X hP 0 tw_c0 lk_3 53 (Nat.le_of_ble_eq_true rfl) q1691 tw_f53 dX3_saying_99 ?_
              refine lv_iload_n hx hb dX3_saying_102 rfl (lv_at hl 1 rfl) ?_
              refine r_iald X hP 29 tw_c29 (ck_in h) dX3_saying_103 ?_
              have h := ck_k h
              exact hret _ _ _ _ _ _ dX3_saying_104 rfl (congrArg (fun z9 => (z9, σ)) (Option.some.inj h)) hP
            · have h := it_f h c_10
              by_cases c_11 : a2 = (3 : Int32)
              · have h := it_t h c_11
                refine lv_tableIn (tgt := 105) hx hb dX3_saying_43 (by rw [c_11]; decide) (by rw [c_11]; decide) (by rw [c_11]; rfl) (by decide) ?_
                refine lv_aload_n hx hb dX3_saying_105 rfl (lv_at hl 0 rfl) ?_
                refine r_geta X hP 0 tw_c0 lk_3 54 (Nat.le_of_ble_eq_true rfl) q1692 tw_f54 dX3_saying_106 ?_
                refine lv_iload_n hx hb dX3_saying_109 rfl (lv_at hl 1 rfl) ?_
                refine r_iald X hP 30 tw_c30 (ck_in h) dX3_saying_110 ?_
                have h := ck_k h
                exact hret _ _ _ _ _ _ dX3_saying_111 rfl (congrArg (fun z9 => (z9, σ)) (Option.some.inj h)) hP
              · have h := it_f h c_11
                by_cases c_12 : a2 = (4 : Int32)
                · have h := it_t h c_12
                  refine lv_tableIn (tgt := 112) hx hb dX3_saying_43 (by rw [c_12]; decide) (by rw [c_12]; decide) (by rw [c_12]; rfl) (by decide) ?_
                  refine lv_aload_n hx hb dX3_saying_112 rfl (lv_at hl 0 rfl) ?_
                  refine r_geta X hP 0 tw_c0 lk_3 55 (Nat.le_of_ble_eq_true rfl) q1693 tw_f55 dX3_saying_113 ?_
                  refine lv_iload_n hx hb dX3_saying_116 rfl (lv_at hl 1 rfl) ?_
                  refine r_iald X hP 31 tw_c31 (ck_in h) dX3_saying_117 ?_
                  have h := ck_k h
                  exact hret _ _ _ _ _ _ dX3_saying_118 rfl (congrArg (fun z9 => (z9, σ)) (Option.some.inj h)) hP
                · have h := it_f h c_12
                  by_cases c_13 : a2 = (5 : Int32)
                  · have h := it_t h c_13
                    refine lv_tableIn (tgt := 119) hx hb dX3_saying_43 (by rw [c_13]; decide) (by rw [c_13]; decide) (by rw [c_13]; rfl) (by decide) ?_
                    refine lv_aload_n hx hb dX3_saying_119 rfl (lv_at hl 0 rfl) ?_
                    refine r_geta X hP 0 tw_c0 lk_3 56 (Nat.le_of_ble_eq_true rfl) q1694 tw_f56 dX3_saying_120 ?_
                    refine lv_iload_n hx hb dX3_saying_123 rfl (lv_at hl 1 rfl) ?_
                    refine r_iald X hP 32 tw_c32 (ck_in h) dX3_saying_124 ?_
                    have h := ck_k h
                    exact hret _ _ _ _ _ _ dX3_saying_125 rfl (congrArg (fun z9 => (z9, σ)) (Option.some.inj h)) hP
                  · have h := it_f h c_13
                    by_cases c_14 : a2 = (6 : Int32)
                    · have h := it_t h c_14
                      refine lv_tableIn (tgt := 126) hx hb dX3_saying_43 (by rw [c_14]; decide) (by rw [c_14]; decide) (by rw [c_14]; rfl) (by decide) ?_
                      refine lv_aload_n hx hb dX3_saying_126 rfl (lv_at hl 0 rfl) ?_
                      refine r_geta X hP 0 tw_c0 lk_3 57 (Nat.le_of_ble_eq_true rfl) q1695 tw_f57 dX3_saying_127 ?_
                      refine lv_iload_n hx hb dX3_saying_130 rfl (lv_at hl 1 rfl) ?_
                      refine r_iald X hP 33 tw_c33 (ck_in h) dX3_saying_131 ?_
                      have h := ck_k h
                      exact hret _ _ _ _ _ _ dX3_saying_132 rfl (congrArg (fun z9 => (z9, σ)) (Option.some.inj h)) hP
                    · have h := it_f h c_14
                      refine lv_tableOut (tgt := 133) hx hb dX3_saying_43 (by have n0 := lv_neT c_8 (a := 0) (by decide); have n1 := lv_neT c_9 (a := 1) (by decide); have n2 := lv_neT c_10 (a := 2) (by decide); have n3 := lv_neT c_11 (a := 3) (by decide); have n4 := lv_neT c_12 (a := 4) (by decide); have n5 := lv_neT c_13 (a := 5) (by decide); have n6 := lv_neT c_14 (a := 6) (by decide); omega) (by decide) ?_
                      refine lv_iconst (v := (-1 : Int32)) hx hb dX3_saying_133 (by decide) ?_
                      exact hret _ _ _ _ _ _ dX3_saying_134 rfl (congrArg (fun z9 => (z9, σ)) (Option.some.inj h)) hP
      · have h := it_t h c_7
        refine lv_iconst (v := (-1 : Int32)) hx hb dX3_saying_40 (by decide) ?_
        exact hret _ _ _ _ _ _ dX3_saying_41 rfl (congrArg (fun z9 => (z9, σ)) (Option.some.inj h)) hP
    · have h := it_f h c_4
      refine lv_bipush (v := (-5 : Int32)) hx hb dX3_saying_21 (by decide) ?_
      exact hret _ _ _ _ _ _ dX3_saying_23 rfl (congrArg (fun z9 => (z9, σ)) (Option.some.inj h)) hP
  · have h := it_t h c_3
    refine lv_iconst (v := (-1 : Int32)) hx hb dX3_saying_12 (by decide) ?_
    exact hret _ _ _ _ _ _ dX3_saying_13 rfl (congrArg (fun z9 => (z9, σ)) (Option.some.inj h)) hP
def tw_took (σ : ST) (a1 : Int32) (a2 : Int32) : Option Int32 :=
  (if (gI σ 0 46) < 0 then some (-2000000000 : Int32) else bo (tw_within ((a1).toInt64) (0 : Int64) ((((gI σ 0 48) - (1 : Int32))).toInt64)) (fun (r_3 : Int32) => (if r_3 = 0 then some (-2000000000 : Int32) else bo (tw_within ((a2).toInt64) (0 : Int64) (1 : Int64)) (fun (r_6 : Int32) => (if r_6 = 0 then some (-2000000000 : Int32) else (if a2 = 0 then ck a1 6 (some (lI σ 0 58 a1)) else ck a1 6 (some (lI σ 0 59 a1))))))))
abbrev rm_X3_took : Room := rmf 1 25
set_option maxHeartbeats 4000000 in
set_option maxRecDepth 100000 in
theorem mt_X3_took (l : Launch) (G : GT) (σ : ST) (a1 : Int32) (a2 : Int32) {r : Int32} (h : tw_took σ a1 a2 = some r) : CI l tw_ft G yX3_took (ws_ yX3_took cX3_took 3 (some .int)) rm_X3_took 0 0 [.ref (G.2.2.1 0), .int a1, .int a2] σ (r, σ) := by
  refine m_enterI (by decide) rfl (lv := [(0, .ref (G.2.2.1 0)), (1, .int a1), (2, .int a2)]) rfl ?_
  intro p e s m args below meth c H locs ls Q X hret hP hl
  have hx := X.1.1
  have hb := X.1.2.1
  have hown := X.1.2.2.2.1
  have hts := X.1.2.2.2.2
  unfold tw_took at h
  refine lv_aload_n hx hb dX3_took_0 rfl (lv_at hl 0 rfl) ?_
  refine r_geti X hP 0 tw_c0 lk_3 46 (Nat.le_of_ble_eq_true rfl) q1684 tw_f46 dX3_took_1 ?_
  refine lv_if_lt (tgt := 33) hx hb dX3_took_4 (by decide) (fun c_1 => ?_) (fun c_1 => ?_)
  · have h := it_t h c_1
    refine lv_ldc hx hb hown (hts _ q1935) dX3_took_33 ?_
    exact hret _ _ _ _ _ _ dX3_took_35 rfl (congrArg (fun z9 => (z9, σ)) (Option.some.inj h)) hP
  · have h := it_f h c_1
    refine lv_iload_n hx hb dX3_took_7 rfl (lv_at hl 1 rfl) ?_
    refine lv_i2l hx hb dX3_took_8 rfl ?_
    refine lv_lconst (v := (0 : Int64)) hx hb dX3_took_9 (by decide) ?_
    refine lv_aload_n hx hb dX3_took_10 rfl (lv_at hl 0 rfl) ?_
    refine r_geti X hP 0 tw_c0 lk_3 48 (Nat.le_of_ble_eq_true rfl) q1686 tw_f48 dX3_took_11 ?_
    refine lv_iconst (v := (1 : Int32)) hx hb dX3_took_14 (by decide) ?_
    refine lv_isub hx hb dX3_took_15 ?_
    refine lv_i2l hx hb dX3_took_16 rfl ?_
    obtain ⟨r_3, e_2, h⟩ := bo_ex h
    refine r_calli (r_runS (rest := []) X hP (mt_X3_within l G σ ((a1).toInt64) (0 : Int64) ((((gI σ 0 48) - (1 : Int32))).toInt64) e_2) (va_cwS 3 hts (lw_S q1880 q1881 q113 q1882) rfl rfl rfl cdX3_within ⟨Nat.le_of_ble_eq_true rfl, Nat.le_of_ble_eq_true rfl⟩) rfl hl.1 rfl (Nat.le_of_ble_eq_true rfl) dX3_took_17 ⟨Nat.le_refl _, Nat.le_refl _⟩) hP (fun H locs hP => ?_)
    refine lv_if_eq (tgt := 33) hx hb dX3_took_20 (by decide) (fun c_4 => ?_) (fun c_4 => ?_)
    · have h := it_t h c_4
      refine lv_ldc hx hb hown (hts _ q1935) dX3_took_33 ?_
      exact hret _ _ _ _ _ _ dX3_took_35 rfl (congrArg (fun z9 => (z9, σ)) (Option.some.inj h)) hP
    · have h := it_f h c_4
      refine lv_iload_n hx hb dX3_took_23 rfl (lv_at hl 2 rfl) ?_
      refine lv_i2l hx hb dX3_took_24 rfl ?_
      refine lv_lconst (v := (0 : Int64)) hx hb dX3_took_25 (by decide) ?_
      refine lv_lconst (v := (1 : Int64)) hx hb dX3_took_26 (by decide) ?_
      obtain ⟨r_6, e_5, h⟩ := bo_ex h
      refine r_calli (r_runS (rest := []) X hP (mt_X3_within l G σ ((a2).toInt64) (0 : Int64) (1 : Int64) e_5) (va_cwS 3 hts (lw_S q1880 q1881 q113 q1882) rfl rfl rfl cdX3_within ⟨Nat.le_of_ble_eq_true rfl, Nat.le_of_ble_eq_true rfl⟩) rfl hl.1 rfl (Nat.le_of_ble_eq_true rfl) dX3_took_27 ⟨Nat.le_refl _, Nat.le_refl _⟩) hP (fun H locs hP => ?_)
      refine lv_if_ne (tgt := 36) hx hb dX3_took_30 (by decide) (fun c_7 => ?_) (fun c_7 => ?_)
      · have h := it_f h c_7
        refine lv_iload_n hx hb dX3_took_36 rfl (lv_at hl 2 rfl) ?_
        refine lv_if_ne (tgt := 49) hx hb dX3_took_37 (by decide) (fun c_8 => ?_) (fun c_8 => ?_)
        · have h := it_f h c_8
          refine lv_aload_n hx hb dX3_took_49 rfl (lv_at hl 0 rfl) ?_
          refine r_geta X hP 0 tw_c0 lk_3 59 (Nat.le_of_ble_eq_true rfl) q1697 tw_f59 dX3_took_50 ?_
          refine lv_iload_n hx hb dX3_took_53 rfl (lv_at hl 1 rfl) ?_
          refine r_iald X hP 35 tw_c35 (ck_in h) dX3_took_54 ?_
          have h := ck_k h
          exact hret _ _ _ _ _ _ dX3_took_55 rfl (congrArg (fun z9 => (z9, σ)) (Option.some.inj h)) hP
        · have h := it_t h c_8
          refine lv_aload_n hx hb dX3_took_40 rfl (lv_at hl 0 rfl) ?_
          refine r_geta X hP 0 tw_c0 lk_3 58 (Nat.le_of_ble_eq_true rfl) q1696 tw_f58 dX3_took_41 ?_
          refine lv_iload_n hx hb dX3_took_44 rfl (lv_at hl 1 rfl) ?_
          refine r_iald X hP 34 tw_c34 (ck_in h) dX3_took_45 ?_
          have h := ck_k h
          refine lv_goto (tgt := 55) hx hb dX3_took_46 (by decide) ?_
          exact hret _ _ _ _ _ _ dX3_took_55 rfl (congrArg (fun z9 => (z9, σ)) (Option.some.inj h)) hP
      · have h := it_t h c_7
        refine lv_ldc hx hb hown (hts _ q1935) dX3_took_33 ?_
        exact hret _ _ _ _ _ _ dX3_took_35 rfl (congrArg (fun z9 => (z9, σ)) (Option.some.inj h)) hP
def tw_did_B53 (σ : ST) (l1 : Int32) (l2 : Int32) (rc53 : Int32 → Int32 → Int32 → Int32 → Option (Int32 × Int32 × Int32)) (w3 : Int32) (w4 : Int32) (w5 : Int32) (w6 : Int32) : Option (Int32 × Int32 × Int32) :=
  (if (gI σ 0 46) ≤ w6 then some (w3, w4, w5) else ck w6 200 (bo (if (lI σ 0 51 w6) = l1 then ck w6 200 (some ((lI σ 0 54 w6))) else some ((0 : Int32))) (fun (x_9 : Int32) => ck w6 200 (bo (if (lI σ 0 57 w6) = l1 then some ((1 : Int32)) else some ((0 : Int32))) (fun (x_12 : Int32) => ck w6 200 (bo (if (lI σ 0 51 w6) = l1 then ck w6 200 ((if (lI σ 0 56 w6) < 0 then some ((0 : Int32)) else some ((1 : Int32)))) else some ((0 : Int32))) (fun (x_15 : Int32) => bo (if x_15 = 0 then some ((0 : Int32)) else ck w6 200 (ck (lI σ 0 56 w6) 20 ((if (lI σ 0 60 (lI σ 0 56 w6)) < 0 then some ((0 : Int32)) else ck w6 200 (ck (lI σ 0 56 w6) 20 ((if (lI σ 0 60 (lI σ 0 56 w6)) = l1 then some ((0 : Int32)) else some ((1 : Int32))))))))) (fun (x_18 : Int32) => (rc53 (w3 + x_9) (w4 + x_12) (w5 + x_18) (w6 + (1 : Int32)))))))))))
def tw_did (σ : ST) (a1 : Int32) (a2 : Int32) : Option Int32 :=
  bo (tw_within ((a2).toInt64) (0 : Int64) (3 : Int64)) (fun (r_2 : Int32) => (if r_2 = 0 then some (-1 : Int32) else (if 0 ≤ (gI σ 0 46) then bo (tw_within ((a1).toInt64) (0 : Int64) ((((gI σ 0 47) - (1 : Int32))).toInt64)) (fun (r_6 : Int32) => (if r_6 = 0 then some (-1 : Int32) else bo3 (wl4 (tw_did_B53 σ a1 a2) FU (0 : Int32) (0 : Int32) (0 : Int32) (0 : Int32)) (fun (o_29 : Int32) (o_30 : Int32) (o_31 : Int32) => (if a2 = 0 then ck (0 : Int32) 10 ((if (lI σ 0 50 (0 : Int32)) = 0 then some (0 : Int32) else ck (0 : Int32) 10 (nz (lI σ 0 50 (0 : Int32)) (some (((1000 : Int32) * o_29) / (lI σ 0 50 (0 : Int32))))))) else (if a2 = (1 : Int32) then some o_30 else (if a2 = (2 : Int32) then some o_31 else ck a1 10 (some (lI σ 0 62 a1)))))))) else some (-5 : Int32))))
abbrev rm_X3_did : Room := rmf 1 25
set_option maxHeartbeats 4000000 in
set_option maxRecDepth 100000 in
theorem mt_X3_did (l : Launch) (G : GT) (σ : ST) (a1 : Int32) (a2 : Int32) {r : Int32} (h : tw_did σ a1 a2 = some r) : CI l tw_ft G yX3_did (ws_ yX3_did cX3_did 8 (some .int)) rm_X3_did 0 0 [.ref (G.2.2.1 0), .int a1, .int a2] σ (r, σ) := by
  refine m_enterI (by decide) rfl (lv := [(0, .ref (G.2.2.1 0)), (1, .int a1), (2, .int a2)]) rfl ?_
  intro p e s m args below meth c H locs ls Q X hret hP hl
  have hx := X.1.1
  have hb := X.1.2.1
  have hown := X.1.2.2.2.1
  have hts := X.1.2.2.2.2
  unfold tw_did at h
  refine lv_iload_n hx hb dX3_did_0 rfl (lv_at hl 2 rfl) ?_
  refine lv_i2l hx hb dX3_did_1 rfl ?_
  refine lv_lconst (v := (0 : Int64)) hx hb dX3_did_2 (by decide) ?_
  refine lv_ldc2 hx hb hown (hts _ q2155) dX3_did_3 ?_
  obtain ⟨r_2, e_1, h⟩ := bo_ex h
  refine r_calli (r_runS (rest := []) X hP (mt_X3_within l G σ ((a2).toInt64) (0 : Int64) (3 : Int64) e_1) (va_cwS 3 hts (lw_S q1880 q1881 q113 q1882) rfl rfl rfl cdX3_within ⟨Nat.le_of_ble_eq_true rfl, Nat.le_of_ble_eq_true rfl⟩) rfl hl.1 rfl (Nat.le_of_ble_eq_true rfl) dX3_did_6 ⟨Nat.le_refl _, Nat.le_refl _⟩) hP (fun H locs hP => ?_)
  refine lv_if_ne (tgt := 14) hx hb dX3_did_9 (by decide) (fun c_3 => ?_) (fun c_3 => ?_)
  · have h := it_f h c_3
    refine lv_aload_n hx hb dX3_did_14 rfl (lv_at hl 0 rfl) ?_
    refine r_geti X hP 0 tw_c0 lk_3 46 (Nat.le_of_ble_eq_true rfl) q1684 tw_f46 dX3_did_15 ?_
    refine lv_if_ge (tgt := 24) hx hb dX3_did_18 (by decide) (fun c_4 => ?_) (fun c_4 => ?_)
    · have h := it_t h c_4
      refine lv_iload_n hx hb dX3_did_24 rfl (lv_at hl 1 rfl) ?_
      refine lv_i2l hx hb dX3_did_25 rfl ?_
      refine lv_lconst (v := (0 : Int64)) hx hb dX3_did_26 (by decide) ?_
      refine lv_aload_n hx hb dX3_did_27 rfl (lv_at hl 0 rfl) ?_
      refine r_geti X hP 0 tw_c0 lk_3 47 (Nat.le_of_ble_eq_true rfl) q1685 tw_f47 dX3_did_28 ?_
      refine lv_iconst (v := (1 : Int32)) hx hb dX3_did_31 (by decide) ?_
      refine lv_isub hx hb dX3_did_32 ?_
      refine lv_i2l hx hb dX3_did_33 rfl ?_
      obtain ⟨r_6, e_5, h⟩ := bo_ex h
      refine r_calli (r_runS (rest := []) X hP (mt_X3_within l G σ ((a1).toInt64) (0 : Int64) ((((gI σ 0 47) - (1 : Int32))).toInt64) e_5) (va_cwS 3 hts (lw_S q1880 q1881 q113 q1882) rfl rfl rfl cdX3_within ⟨Nat.le_of_ble_eq_true rfl, Nat.le_of_ble_eq_true rfl⟩) rfl hl.1 rfl (Nat.le_of_ble_eq_true rfl) dX3_did_34 ⟨Nat.le_refl _, Nat.le_refl _⟩) hP (fun H locs hP => ?_)
      refine lv_if_ne (tgt := 42) hx hb dX3_did_37 (by decide) (fun c_7 => ?_) (fun c_7 => ?_)
      · have h := it_f h c_7
        refine lv_iconst (v := (0 : Int32)) hx hb dX3_did_42 (by decide) ?_
        refine lv_istore_n (lv' := [(3, .int (0 : Int32)), (0, .ref (G.2.2.1 0)), (1, .int a1), (2, .int a2)]) hx hb dX3_did_43 rfl hl (by decide) rfl (fun ls hl => ?_)
        refine lv_iconst (v := (0 : Int32)) hx hb dX3_did_44 (by decide) ?_
        refine lv_istore (lv' := [(4, .int (0 : Int32)), (3, .int (0 : Int32)), (0, .ref (G.2.2.1 0)), (1, .int a1), (2, .int a2)]) hx hb dX3_did_45 hl (by decide) rfl (fun ls hl => ?_)
        refine lv_iconst (v := (0 : Int32)) hx hb dX3_did_47 (by decide) ?_
        refine lv_istore (lv' := [(5, .int (0 : Int32)), (4, .int (0 : Int32)), (3, .int (0 : Int32)), (0, .ref (G.2.2.1 0)), (1, .int a1), (2, .int a2)]) hx hb dX3_did_48 hl (by decide) rfl (fun ls hl => ?_)
        refine lv_iconst (v := (0 : Int32)) hx hb dX3_did_50 (by decide) ?_
        refine lv_istore (lv' := [(6, .int (0 : Int32)), (5, .int (0 : Int32)), (4, .int (0 : Int32)), (3, .int (0 : Int32)), (0, .ref (G.2.2.1 0)), (1, .int a1), (2, .int a2)]) hx hb dX3_did_51 hl (by decide) rfl (fun ls hl => ?_)
        obtain ⟨o_29, o_30, o_31, h_32, h⟩ := bo3_ex h
        have hE_33 : ∀ (H : Heap) (locs : List Loc) (ls : Array Slot), PS tw_ft G s σ H locs → lv_has ls 8 [(0, .ref (G.2.2.1 0)), (1, .int a1), (2, .int a2), (3, .int o_29), (4, .int o_30), (5, .int o_31)] → W p l e rm_X3_did s m args below meth c H locs 0 0 Q (F0 m 188 ls []) := by
          intro H locs ls hP hl
          refine lv_iload_n hx hb dX3_did_188 rfl (lv_at hl 2 rfl) ?_
          refine lv_if_ne (tgt := 220) hx hb dX3_did_189 (by decide) (fun c_34 => ?_) (fun c_34 => ?_)
          · have h := it_f h c_34
            refine lv_iload_n hx hb dX3_did_220 rfl (lv_at hl 2 rfl) ?_
            refine lv_iconst (v := (1 : Int32)) hx hb dX3_did_221 (by decide) ?_
            refine lv_icmp_ne (tgt := 230) hx hb dX3_did_222 (by decide) (fun c_35 => ?_) (fun c_35 => ?_)
            · have h := it_f h c_35
              refine lv_iload_n hx hb dX3_did_230 rfl (lv_at hl 2 rfl) ?_
              refine lv_iconst (v := (2 : Int32)) hx hb dX3_did_231 (by decide) ?_
              refine lv_icmp_ne (tgt := 240) hx hb dX3_did_232 (by decide) (fun c_36 => ?_) (fun c_36 => ?_)
              · have h := it_f h c_36
                refine lv_aload_n hx hb dX3_did_240 rfl (lv_at hl 0 rfl) ?_
                refine r_geta X hP 0 tw_c0 lk_3 62 (Nat.le_of_ble_eq_true rfl) q1700 tw_f62 dX3_did_241 ?_
                refine lv_iload_n hx hb dX3_did_244 rfl (lv_at hl 1 rfl) ?_
                refine r_iald X hP 38 tw_c38 (ck_in h) dX3_did_245 ?_
                have h := ck_k h
                exact hret _ _ _ _ _ _ dX3_did_246 rfl (congrArg (fun z9 => (z9, σ)) (Option.some.inj h)) hP
              · have h := it_t h c_36
                refine lv_iload hx hb dX3_did_235 (lv_at hl 5 rfl) ?_
                refine lv_goto (tgt := 246) hx hb dX3_did_237 (by decide) ?_
                exact hret _ _ _ _ _ _ dX3_did_246 rfl (congrArg (fun z9 => (z9, σ)) (Option.some.inj h)) hP
            · have h := it_t h c_35
              refine lv_iload hx hb dX3_did_225 (lv_at hl 4 rfl) ?_
              refine lv_goto (tgt := 246) hx hb dX3_did_227 (by decide) ?_
              exact hret _ _ _ _ _ _ dX3_did_246 rfl (congrArg (fun z9 => (z9, σ)) (Option.some.inj h)) hP
          · have h := it_t h c_34
            refine lv_aload_n hx hb dX3_did_192 rfl (lv_at hl 0 rfl) ?_
            refine r_geta X hP 0 tw_c0 lk_3 50 (Nat.le_of_ble_eq_true rfl) q1688 tw_f50 dX3_did_193 ?_
            refine lv_iconst (v := (0 : Int32)) hx hb dX3_did_196 (by decide) ?_
            refine r_iald X hP 26 tw_c26 (ck_in h) dX3_did_197 ?_
            have h := ck_k h
            refine lv_if_ne (tgt := 205) hx hb dX3_did_198 (by decide) (fun c_37 => ?_) (fun c_37 => ?_)
            · have h := it_f h c_37
              refine lv_sipush (v := (1000 : Int32)) hx hb dX3_did_205 (by decide) ?_
              refine lv_iload_n hx hb dX3_did_208 rfl (lv_at hl 3 rfl) ?_
              refine lv_imul hx hb dX3_did_209 ?_
              refine lv_aload_n hx hb dX3_did_210 rfl (lv_at hl 0 rfl) ?_
              refine r_geta X hP 0 tw_c0 lk_3 50 (Nat.le_of_ble_eq_true rfl) q1688 tw_f50 dX3_did_211 ?_
              refine lv_iconst (v := (0 : Int32)) hx hb dX3_did_214 (by decide) ?_
              refine r_iald X hP 26 tw_c26 (ck_in h) dX3_did_215 ?_
              have h := ck_k h
              refine lv_idiv hx hb dX3_did_216 (nz_ne h) ?_
              have h := nz_k h
              refine lv_goto (tgt := 246) hx hb dX3_did_217 (by decide) ?_
              exact hret _ _ _ _ _ _ dX3_did_246 rfl (congrArg (fun z9 => (z9, σ)) (Option.some.inj h)) hP
            · have h := it_t h c_37
              refine lv_iconst (v := (0 : Int32)) hx hb dX3_did_201 (by decide) ?_
              refine lv_goto (tgt := 246) hx hb dX3_did_202 (by decide) ?_
              exact hret _ _ _ _ _ _ dX3_did_246 rfl (congrArg (fun z9 => (z9, σ)) (Option.some.inj h)) hP
        have hL_28 : ∀ (n : Nat) (w_38 : Int32) (w_39 : Int32) (w_40 : Int32) (w_41 : Int32) (H : Heap) (locs : List Loc) (ls : Array Slot), wl4 (tw_did_B53 σ a1 a2) n w_38 w_39 w_40 w_41 = some (o_29, o_30, o_31) → PS tw_ft G s σ H locs → lv_has ls 8 [(0, .ref (G.2.2.1 0)), (1, .int a1), (2, .int a2), (3, .int w_38), (4, .int w_39), (5, .int w_40), (6, .int w_41)] → W p l e rm_X3_did s m args below meth c H locs 0 0 Q (F0 m 53 ls []) := by
          intro n
          induction n with
          | zero => intro w_38 w_39 w_40 w_41 H locs ls h_42; cases h_42
          | succ n ih =>
            intro w_38 w_39 w_40 w_41 H locs ls h_42 hP hl
            have h_42 : tw_did_B53 σ a1 a2 (wl4 (tw_did_B53 σ a1 a2) n) w_38 w_39 w_40 w_41 = some _ := h_42
            generalize wl4 (tw_did_B53 σ a1 a2) n = rc_43 at h_42 ih
            unfold tw_did_B53 at h_42
            refine lv_iload hx hb dX3_did_53 (lv_at hl 6 rfl) ?_
            refine lv_aload_n hx hb dX3_did_55 rfl (lv_at hl 0 rfl) ?_
            refine r_geti X hP 0 tw_c0 lk_3 46 (Nat.le_of_ble_eq_true rfl) q1684 tw_f46 dX3_did_56 ?_
            refine lv_icmp_ge (tgt := 188) hx hb dX3_did_59 (by decide) (fun c_44 => ?_) (fun c_44 => ?_)
            · have h_42 := it_t h_42 c_44
              obtain ⟨rfl, rfl, rfl⟩ := so3 h_42
              exact hE_33 _ _ _ hP (lv_sub hl [0, 1, 2, 3, 4, 5] rfl)
            · have h_42 := it_f h_42 c_44
              refine lv_iload_n hx hb dX3_did_62 rfl (lv_at hl 3 rfl) ?_
              refine lv_aload_n hx hb dX3_did_63 rfl (lv_at hl 0 rfl) ?_
              refine r_geta X hP 0 tw_c0 lk_3 51 (Nat.le_of_ble_eq_true rfl) q1689 tw_f51 dX3_did_64 ?_
              refine lv_iload hx hb dX3_did_67 (lv_at hl 6 rfl) ?_
              refine r_iald X hP 27 tw_c27 (ck_in h_42) dX3_did_69 ?_
              have h_42 := ck_k h_42
              refine lv_iload_n hx hb dX3_did_70 rfl (lv_at hl 1 rfl) ?_
              obtain ⟨x_45, h_46, h_42⟩ := bo_ex h_42
              have hJ_47 : ∀ (H : Heap) (locs : List Loc) (ls : Array Slot), PS tw_ft G s σ H locs → lv_has ls 8 [(0, .ref (G.2.2.1 0)), (1, .int a1), (2, .int a2), (4, .int w_39), (5, .int w_40), (6, .int w_41)] → W p l e rm_X3_did s m args below meth c H locs 0 0 Q (F0 m 85 ls [.int x_45, .int w_38]) := by
                intro H locs ls hP hl
                refine lv_iadd hx hb dX3_did_85 ?_
                refine lv_istore_n (lv' := [(3, .int (w_38 + x_45)), (0, .ref (G.2.2.1 0)), (1, .int a1), (2, .int a2), (4, .int w_39), (5, .int w_40), (6, .int w_41)]) hx hb dX3_did_86 rfl hl (by decide) rfl (fun ls hl => ?_)
                refine lv_iload hx hb dX3_did_87 (lv_at hl 4 rfl) ?_
                refine lv_aload_n hx hb dX3_did_89 rfl (lv_at hl 1 rfl) ?_
                refine r_geta X hP 0 tw_c0 lk_3 57 (Nat.le_of_ble_eq_true rfl) q1695 tw_f57 dX3_did_90 ?_
                refine lv_iload hx hb dX3_did_93 (lv_at hl 6 rfl) ?_
                refine r_iald X hP 33 tw_c33 (ck_in h_42) dX3_did_95 ?_
                have h_42 := ck_k h_42
                refine lv_iload_n hx hb dX3_did_96 rfl (lv_at hl 2 rfl) ?_
                obtain ⟨x_48, h_49, h_42⟩ := bo_ex h_42
                have hJ_50 : ∀ (H : Heap) (locs : List Loc) (ls : Array Slot), PS tw_ft G s σ H locs → lv_has ls 8 [(0, .ref (G.2.2.1 0)), (1, .int a1), (2, .int a2), (3, .int (w_38 + x_45)), (5, .int w_40), (6, .int w_41)] → W p l e rm_X3_did s m args below meth c H locs 0 0 Q (F0 m 105 ls [.int x_48, .int w_39]) := by
                  intro H locs ls hP hl
                  refine lv_iadd hx hb dX3_did_105 ?_
                  refine lv_istore (lv' := [(4, .int (w_39 + x_48)), (0, .ref (G.2.2.1 0)), (1, .int a1), (2, .int a2), (3, .int (w_38 + x_45)), (5, .int w_40), (6, .int w_41)]) hx hb dX3_did_106 hl (by decide) rfl (fun ls hl => ?_)
                  refine lv_aload_n hx hb dX3_did_108 rfl (lv_at hl 1 rfl) ?_
                  refine r_geta X hP 0 tw_c0 lk_3 51 (Nat.le_of_ble_eq_true rfl) q1689 tw_f51 dX3_did_109 ?_
                  refine lv_iload hx hb dX3_did_112 (lv_at hl 6 rfl) ?_
                  refine r_iald X hP 27 tw_c27 (ck_in h_42) dX3_did_114 ?_
                  have h_42 := ck_k h_42
                  refine lv_iload_n hx hb dX3_did_115 rfl (lv_at hl 2 rfl) ?_
                  obtain ⟨x_51, h_52, h_42⟩ := bo_ex h_42
                  have hJ_53 : ∀ (H : Heap) (locs : List Loc) (ls : Array Slot), PS tw_ft G s σ H locs → lv_has ls 8 [(0, .ref (G.2.2.1 0)), (1, .int a1), (2, .int a2), (3, .int (w_38 + x_45)), (4, .int (w_39 + x_48)), (5, .int w_40), (6, .int w_41)] → W p l e rm_X3_did s m args below meth c H locs 0 0 Q (F0 m 134 ls [.int x_51]) := by
                    intro H locs ls hP hl
                    refine lv_istore (lv' := [(7, .int x_51), (0, .ref (G.2.2.1 0)), (1, .int a1), (2, .int a2), (3, .int (w_38 + x_45)), (4, .int (w_39 + x_48)), (5, .int w_40), (6, .int w_41)]) hx hb dX3_did_134 hl (by decide) rfl (fun ls hl => ?_)
                    refine lv_iload hx hb dX3_did_136 (lv_at hl 6 rfl) ?_
                    refine lv_iload hx hb dX3_did_138 (lv_at hl 0 rfl) ?_
                    obtain ⟨x_54, h_55, h_42⟩ := bo_ex h_42
                    have hJ_56 : ∀ (H : Heap) (locs : List Loc) (ls : Array Slot), PS tw_ft G s σ H locs → lv_has ls 8 [(0, .ref (G.2.2.1 0)), (1, .int a1), (2, .int a2), (3, .int (w_38 + x_45)), (4, .int (w_39 + x_48)), (6, .int w_41)] → W p l e rm_X3_did s m args below meth c H locs 0 0 Q (F0 m 179 ls [.int x_54, .int w_40]) := by
                      intro H locs ls hP hl
                      refine lv_iadd hx hb dX3_did_179 ?_
                      refine lv_istore (lv' := [(5, .int (w_40 + x_54)), (0, .ref (G.2.2.1 0)), (1, .int a1), (2, .int a2), (3, .int (w_38 + x_45)), (4, .int (w_39 + x_48)), (6, .int w_41)]) hx hb dX3_did_180 hl (by decide) rfl (fun ls hl => ?_)
                      refine lv_iinc (v := (w_41 + (1 : Int32))) (lv' := [(6, .int (w_41 + (1 : Int32))), (5, .int (w_40 + x_54)), (0, .ref (G.2.2.1 0)), (1, .int a1), (2, .int a2), (3, .int (w_38 + x_45)), (4, .int (w_39 + x_48))]) hx hb dX3_did_182 hl (k := 6) rfl rfl (by decide) rfl (fun ls hl => ?_)
                      refine lv_goto (tgt := 53) hx hb dX3_did_185 (by decide) ?_
                      exact ih _ _ _ _ _ _ _ h_42 hP (lv_sub hl [2, 3, 4, 5, 6, 1, 0] rfl)
                    refine lv_if_eq (tgt := 178) hx hb dX3_did_140 (by decide) (fun c_57 => ?_) (fun c_57 => ?_)
                    · have h_55 := it_t h_55 c_57
                      refine lv_iconst (v := (0 : Int32)) hx hb dX3_did_178 (by decide) ?_
                      obtain rfl := Option.some.inj h_55
                      exact hJ_56 _ _ _ hP (lv_sub hl [1, 2, 3, 4, 5, 7] rfl)
                    · have h_55 := it_f h_55 c_57
                      refine lv_aload_n hx hb dX3_did_143 rfl (lv_at hl 1 rfl) ?_
                      refine r_geta X hP 0 tw_c0 lk_3 60 (Nat.le_of_ble_eq_true rfl) q1698 tw_f60 dX3_did_144 ?_
                      refine lv_aload_n hx hb dX3_did_147 rfl (lv_at hl 1 rfl) ?_
                      refine r_geta X hP 0 tw_c0 lk_3 56 (Nat.le_of_ble_eq_true rfl) q1694 tw_f56 dX3_did_148 ?_
                      refine lv_iload hx hb dX3_did_151 (lv_at hl 7 rfl) ?_
                      refine r_iald X hP 32 tw_c32 (ck_in h_55) dX3_did_153 ?_
                      have h_55 := ck_k h_55
                      refine r_iald X hP 36 tw_c36 (ck_in h_55) dX3_did_154 ?_
                      have h_55 := ck_k h_55
                      refine lv_if_lt (tgt := 178) hx hb dX3_did_155 (by decide) (fun c_58 => ?_) (fun c_58 => ?_)
                      · have h_55 := it_t h_55 c_58
                        refine lv_iconst (v := (0 : Int32)) hx hb dX3_did_178 (by decide) ?_
                        obtain rfl := Option.some.inj h_55
                        exact hJ_56 _ _ _ hP (lv_sub hl [1, 2, 3, 4, 5, 7] rfl)
                      · have h_55 := it_f h_55 c_58
                        refine lv_aload_n hx hb dX3_did_158 rfl (lv_at hl 1 rfl) ?_
                        refine r_geta X hP 0 tw_c0 lk_3 60 (Nat.le_of_ble_eq_true rfl) q1698 tw_f60 dX3_did_159 ?_
                        refine lv_aload_n hx hb dX3_did_162 rfl (lv_at hl 1 rfl) ?_
                        refine r_geta X hP 0 tw_c0 lk_3 56 (Nat.le_of_ble_eq_true rfl) q1694 tw_f56 dX3_did_163 ?_
                        refine lv_iload hx hb dX3_did_166 (lv_at hl 7 rfl) ?_
                        refine r_iald X hP 32 tw_c32 (ck_in h_55) dX3_did_168 ?_
                        have h_55 := ck_k h_55
                        refine r_iald X hP 36 tw_c36 (ck_in h_55) dX3_did_169 ?_
                        have h_55 := ck_k h_55
                        refine lv_iload_n hx hb dX3_did_170 rfl (lv_at hl 2 rfl) ?_
                        refine lv_icmp_eq (tgt := 178) hx hb dX3_did_171 (by decide) (fun c_59 => ?_) (fun c_59 => ?_)
                        · have h_55 := it_t h_55 c_59
                          refine lv_iconst (v := (0 : Int32)) hx hb dX3_did_178 (by decide) ?_
                          obtain rfl := Option.some.inj h_55
                          exact hJ_56 _ _ _ hP (lv_sub hl [1, 2, 3, 4, 5, 7] rfl)
                        · have h_55 := it_f h_55 c_59
                          refine lv_iconst (v := (1 : Int32)) hx hb dX3_did_174 (by decide) ?_
                          refine lv_goto (tgt := 179) hx hb dX3_did_175 (by decide) ?_
                          obtain rfl := Option.some.inj h_55
                          exact hJ_56 _ _ _ hP (lv_sub hl [1, 2, 3, 4, 5, 7] rfl)
                  refine lv_icmp_ne (tgt := 133) hx hb dX3_did_116 (by decide) (fun c_60 => ?_) (fun c_60 => ?_)
                  · have h_52 := it_f h_52 c_60
                    refine lv_iconst (v := (0 : Int32)) hx hb dX3_did_133 (by decide) ?_
                    obtain rfl := Option.some.inj h_52
                    exact hJ_53 _ _ _ hP (lv_sub hl [1, 2, 3, 4, 0, 5, 6] rfl)
                  · have h_52 := it_t h_52 c_60
                    refine lv_aload_n hx hb dX3_did_119 rfl (lv_at hl 1 rfl) ?_
                    refine r_geta X hP 0 tw_c0 lk_3 56 (Nat.le_of_ble_eq_true rfl) q1694 tw_f56 dX3_did_120 ?_
                    refine lv_iload hx hb dX3_did_123 (lv_at hl 6 rfl) ?_
                    refine r_iald X hP 32 tw_c32 (ck_in h_52) dX3_did_125 ?_
                    have h_52 := ck_k h_52
                    refine lv_if_lt (tgt := 133) hx hb dX3_did_126 (by decide) (fun c_61 => ?_) (fun c_61 => ?_)
                    · have h_52 := it_t h_52 c_61
                      refine lv_iconst (v := (0 : Int32)) hx hb dX3_did_133 (by decide) ?_
                      obtain rfl := Option.some.inj h_52
                      exact hJ_53 _ _ _ hP (lv_sub hl [1, 2, 3, 4, 0, 5, 6] rfl)
                    · have h_52 := it_f h_52 c_61
                      refine lv_iconst (v := (1 : Int32)) hx hb dX3_did_129 (by decide) ?_
                      refine lv_goto (tgt := 134) hx hb dX3_did_130 (by decide) ?_
                      obtain rfl := Option.some.inj h_52
                      exact hJ_53 _ _ _ hP (lv_sub hl [1, 2, 3, 4, 0, 5, 6] rfl)
                refine lv_icmp_ne (tgt := 104) hx hb dX3_did_97 (by decide) (fun c_62 => ?_) (fun c_62 => ?_)
                · have h_49 := it_f h_49 c_62
                  refine lv_iconst (v := (0 : Int32)) hx hb dX3_did_104 (by decide) ?_
                  obtain rfl := Option.some.inj h_49
                  exact hJ_50 _ _ _ hP (lv_sub hl [1, 2, 3, 0, 5, 6] rfl)
                · have h_49 := it_t h_49 c_62
                  refine lv_iconst (v := (1 : Int32)) hx hb dX3_did_100 (by decide) ?_
                  refine lv_goto (tgt := 105) hx hb dX3_did_101 (by decide) ?_
                  obtain rfl := Option.some.inj h_49
                  exact hJ_50 _ _ _ hP (lv_sub hl [1, 2, 3, 0, 5, 6] rfl)
              refine lv_icmp_ne (tgt := 84) hx hb dX3_did_71 (by decide) (fun c_63 => ?_) (fun c_63 => ?_)
              · have h_46 := it_f h_46 c_63
                refine lv_iconst (v := (0 : Int32)) hx hb dX3_did_84 (by decide) ?_
                obtain rfl := Option.some.inj h_46
                exact hJ_47 _ _ _ hP (lv_sub hl [0, 1, 2, 4, 5, 6] rfl)
              · have h_46 := it_t h_46 c_63
                refine lv_aload_n hx hb dX3_did_74 rfl (lv_at hl 0 rfl) ?_
                refine r_geta X hP 0 tw_c0 lk_3 54 (Nat.le_of_ble_eq_true rfl) q1692 tw_f54 dX3_did_75 ?_
                refine lv_iload hx hb dX3_did_78 (lv_at hl 6 rfl) ?_
                refine r_iald X hP 30 tw_c30 (ck_in h_46) dX3_did_80 ?_
                have h_46 := ck_k h_46
                refine lv_goto (tgt := 85) hx hb dX3_did_81 (by decide) ?_
                obtain rfl := Option.some.inj h_46
                exact hJ_47 _ _ _ hP (lv_sub hl [0, 1, 2, 4, 5, 6] rfl)
        exact hL_28 _ _ _ _ _ _ _ _ h_32 hP (lv_sub hl [4, 5, 6, 3, 2, 1, 0] rfl)
      · have h := it_t h c_7
        refine lv_iconst (v := (-1 : Int32)) hx hb dX3_did_40 (by decide) ?_
        exact hret _ _ _ _ _ _ dX3_did_41 rfl (congrArg (fun z9 => (z9, σ)) (Option.some.inj h)) hP
    · have h := it_f h c_4
      refine lv_bipush (v := (-5 : Int32)) hx hb dX3_did_21 (by decide) ?_
      exact hret _ _ _ _ _ _ dX3_did_23 rfl (congrArg (fun z9 => (z9, σ)) (Option.some.inj h)) hP
  · have h := it_t h c_3
    refine lv_iconst (v := (-1 : Int32)) hx hb dX3_did_12 (by decide) ?_
    exact hret _ _ _ _ _ _ dX3_did_13 rfl (congrArg (fun z9 => (z9, σ)) (Option.some.inj h)) hP
