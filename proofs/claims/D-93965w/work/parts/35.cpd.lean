set_option maxRecDepth 100000
def cp_took (σ : ST) (a1 : Int32) (a2 : Int32) : Option Int32 :=
  (if (gI σ 0 22) = 0 then some (-2000000000 : Int32) else bo (cp_in a1 (0 : Int32) ((gI σ 0 24) - (1 : Int32))) (fun (r_3 : Int32) => (if r_3 = 0 then some (-2000000000 : Int32) else bo (cp_in a2 (0 : Int32) (1 : Int32)) (fun (r_6 : Int32) => (if r_6 = 0 then some (-2000000000 : Int32) else (if a2 = 0 then ck a1 6 (some (lI σ (1 + 0) 0 a1)) else ck a1 6 (some (lI σ 0 20 a1))))))))
abbrev rm_X0_took : Room := rmf 1 22
set_option maxHeartbeats 4000000 in
set_option maxRecDepth 100000 in
theorem mt_X0_took (l : Launch) (G : GT) (σ : ST) (a1 : Int32) (a2 : Int32) {r : Int32} (h : cp_took σ a1 a2 = some r) : CI l cp_ft G yX0_took (ws_ yX0_took cX0_took 3 (some .int)) rm_X0_took 0 0 [.ref (G.2.2.1 0), .int a1, .int a2] σ (r, σ) := by
  refine m_enterI (by decide) rfl (lv := [(0, .ref (G.2.2.1 0)), (1, .int a1), (2, .int a2)]) rfl ?_
  intro p e s m args below meth c H locs ls Q X hret hP hl
  have hx := X.1.1
  have hb := X.1.2.1
  have hown := X.1.2.2.2.1
  have hts := X.1.2.2.2.2
  unfold cp_took at h
  refine lv_aload_n hx hb dX0_took_0 rfl (lv_at hl 0 rfl) ?_
  refine r_geti X hP 0 cp_c0 lk_0 22 (Nat.le_of_ble_eq_true rfl) q311 cp_f22 dX0_took_1 ?_
  refine lv_if_eq (tgt := 30) hx hb dX0_took_4 (by decide) (fun c_1 => ?_) (fun c_1 => ?_)
  · have h := it_t h c_1
    refine lv_ldc hx hb hown (hts _ q632) dX0_took_30 ?_
    exact hret _ _ _ _ _ _ dX0_took_32 rfl (congrArg (fun z9 => (z9, σ)) (Option.some.inj h)) hP
  · have h := it_f h c_1
    refine lv_iload_n hx hb dX0_took_7 rfl (lv_at hl 1 rfl) ?_
    refine lv_iconst (v := (0 : Int32)) hx hb dX0_took_8 (by decide) ?_
    refine lv_aload_n hx hb dX0_took_9 rfl (lv_at hl 0 rfl) ?_
    refine r_geti X hP 0 cp_c0 lk_0 24 (Nat.le_of_ble_eq_true rfl) q313 cp_f24 dX0_took_10 ?_
    refine lv_iconst (v := (1 : Int32)) hx hb dX0_took_13 (by decide) ?_
    refine lv_isub hx hb dX0_took_14 ?_
    obtain ⟨r_3, e_2, h⟩ := bo_ex h
    refine r_calli (r_runS (rest := []) X hP (mt_X0_in l G σ a1 (0 : Int32) ((gI σ 0 24) - (1 : Int32)) e_2) (va_cwS 3 hts (lw_S q396 q397 q110 q398) rfl rfl rfl cdX0_in ⟨Nat.le_of_ble_eq_true rfl, Nat.le_of_ble_eq_true rfl⟩) rfl hl.1 rfl (Nat.le_of_ble_eq_true rfl) dX0_took_15 ⟨Nat.le_refl _, Nat.le_refl _⟩) hP (fun H locs hP => ?_)
    refine lv_if_eq (tgt := 30) hx hb dX0_took_18 (by decide) (fun c_4 => ?_) (fun c_4 => ?_)
    · have h := it_t h c_4
      refine lv_ldc hx hb hown (hts _ q632) dX0_took_30 ?_
      exact hret _ _ _ _ _ _ dX0_took_32 rfl (congrArg (fun z9 => (z9, σ)) (Option.some.inj h)) hP
    · have h := it_f h c_4
      refine lv_iload_n hx hb dX0_took_21 rfl (lv_at hl 2 rfl) ?_
      refine lv_iconst (v := (0 : Int32)) hx hb dX0_took_22 (by decide) ?_
      refine lv_iconst (v := (1 : Int32)) hx hb dX0_took_23 (by decide) ?_
      obtain ⟨r_6, e_5, h⟩ := bo_ex h
      refine r_calli (r_runS (rest := []) X hP (mt_X0_in l G σ a2 (0 : Int32) (1 : Int32) e_5) (va_cwS 3 hts (lw_S q396 q397 q110 q398) rfl rfl rfl cdX0_in ⟨Nat.le_of_ble_eq_true rfl, Nat.le_of_ble_eq_true rfl⟩) rfl hl.1 rfl (Nat.le_of_ble_eq_true rfl) dX0_took_24 ⟨Nat.le_refl _, Nat.le_refl _⟩) hP (fun H locs hP => ?_)
      refine lv_if_ne (tgt := 33) hx hb dX0_took_27 (by decide) (fun c_7 => ?_) (fun c_7 => ?_)
      · have h := it_f h c_7
        refine lv_iload_n hx hb dX0_took_33 rfl (lv_at hl 2 rfl) ?_
        refine lv_if_ne (tgt := 49) hx hb dX0_took_34 (by decide) (fun c_8 => ?_) (fun c_8 => ?_)
        · have h := it_f h c_8
          refine lv_aload_n hx hb dX0_took_49 rfl (lv_at hl 0 rfl) ?_
          refine r_geta X hP 0 cp_c0 lk_0 20 (Nat.le_of_ble_eq_true rfl) q309 cp_f20 dX0_took_50 ?_
          refine lv_iload_n hx hb dX0_took_53 rfl (lv_at hl 1 rfl) ?_
          refine r_iald X hP 8 cp_c8 (ck_in h) dX0_took_54 ?_
          have h := ck_k h
          exact hret _ _ _ _ _ _ dX0_took_55 rfl (congrArg (fun z9 => (z9, σ)) (Option.some.inj h)) hP
        · have h := it_t h c_8
          refine lv_aload_n hx hb dX0_took_37 rfl (lv_at hl 0 rfl) ?_
          refine r_geta X hP 0 cp_c0 lk_0 17 (Nat.le_of_ble_eq_true rfl) q306 cp_f17 dX0_took_38 ?_
          refine r_getaN X hP (15 + 17 * 0) (mg_c 0 (by decide)) lk_2 0 (Nat.le_of_ble_eq_true rfl) q194 (mg_f0 0) dX0_took_41 ?_
          refine lv_iload_n hx hb dX0_took_44 rfl (lv_at hl 1 rfl) ?_
          refine r_iald X hP (16 + 17 * 0 + 0) (mg_a0 0 (by decide)) (ck_in h) dX0_took_45 ?_
          have h := ck_k h
          refine lv_goto (tgt := 55) hx hb dX0_took_46 (by decide) ?_
          exact hret _ _ _ _ _ _ dX0_took_55 rfl (congrArg (fun z9 => (z9, σ)) (Option.some.inj h)) hP
      · have h := it_t h c_7
        refine lv_ldc hx hb hown (hts _ q632) dX0_took_30 ?_
        exact hret _ _ _ _ _ _ dX0_took_32 rfl (congrArg (fun z9 => (z9, σ)) (Option.some.inj h)) hP
def cp_did (σ : ST) (a1 : Int32) (a2 : Int32) : Option Int32 :=
  bo (cp_in a2 (0 : Int32) (3 : Int32)) (fun (r_2 : Int32) => (if r_2 = 0 then some (-1 : Int32) else (if (gI σ 0 22) = 0 then some (-5 : Int32) else bo (cp_in a1 (0 : Int32) ((gI σ 0 23) - (1 : Int32))) (fun (r_6 : Int32) => (if r_6 = 0 then some (-1 : Int32) else (if a2 = (0 : Int32) then (if (gI σ (1 + 0) 16) = 0 then some (0 : Int32) else ck a1 10 (nz (gI σ (1 + 0) 16) (some (((1000 : Int32) * (lI σ (1 + 0) 10 a1)) / (gI σ (1 + 0) 16))))) else (if a2 = (1 : Int32) then ck a1 10 (some (lI σ (1 + 0) 11 a1)) else (if a2 = (2 : Int32) then ck a1 10 (some (lI σ (1 + 0) 12 a1)) else ck a1 10 (some (lI σ 0 21 a1))))))))))
abbrev rm_X0_did : Room := rmf 1 22
set_option maxHeartbeats 4000000 in
set_option maxRecDepth 100000 in
theorem mt_X0_did (l : Launch) (G : GT) (σ : ST) (a1 : Int32) (a2 : Int32) {r : Int32} (h : cp_did σ a1 a2 = some r) : CI l cp_ft G yX0_did (ws_ yX0_did cX0_did 3 (some .int)) rm_X0_did 0 0 [.ref (G.2.2.1 0), .int a1, .int a2] σ (r, σ) := by
  refine m_enterI (by decide) rfl (lv := [(0, .ref (G.2.2.1 0)), (1, .int a1), (2, .int a2)]) rfl ?_
  intro p e s m args below meth c H locs ls Q X hret hP hl
  have hx := X.1.1
  have hb := X.1.2.1
  have hown := X.1.2.2.2.1
  have hts := X.1.2.2.2.2
  unfold cp_did at h
  refine lv_iload_n hx hb dX0_did_0 rfl (lv_at hl 2 rfl) ?_
  refine lv_iconst (v := (0 : Int32)) hx hb dX0_did_1 (by decide) ?_
  refine lv_iconst (v := (3 : Int32)) hx hb dX0_did_2 (by decide) ?_
  obtain ⟨r_2, e_1, h⟩ := bo_ex h
  refine r_calli (r_runS (rest := []) X hP (mt_X0_in l G σ a2 (0 : Int32) (3 : Int32) e_1) (va_cwS 3 hts (lw_S q396 q397 q110 q398) rfl rfl rfl cdX0_in ⟨Nat.le_of_ble_eq_true rfl, Nat.le_of_ble_eq_true rfl⟩) rfl hl.1 rfl (Nat.le_of_ble_eq_true rfl) dX0_did_3 ⟨Nat.le_refl _, Nat.le_refl _⟩) hP (fun H locs hP => ?_)
  refine lv_if_ne (tgt := 11) hx hb dX0_did_6 (by decide) (fun c_3 => ?_) (fun c_3 => ?_)
  · have h := it_f h c_3
    refine lv_aload_n hx hb dX0_did_11 rfl (lv_at hl 0 rfl) ?_
    refine r_geti X hP 0 cp_c0 lk_0 22 (Nat.le_of_ble_eq_true rfl) q311 cp_f22 dX0_did_12 ?_
    refine lv_if_ne (tgt := 21) hx hb dX0_did_15 (by decide) (fun c_4 => ?_) (fun c_4 => ?_)
    · have h := it_f h c_4
      refine lv_iload_n hx hb dX0_did_21 rfl (lv_at hl 1 rfl) ?_
      refine lv_iconst (v := (0 : Int32)) hx hb dX0_did_22 (by decide) ?_
      refine lv_aload_n hx hb dX0_did_23 rfl (lv_at hl 0 rfl) ?_
      refine r_geti X hP 0 cp_c0 lk_0 23 (Nat.le_of_ble_eq_true rfl) q312 cp_f23 dX0_did_24 ?_
      refine lv_iconst (v := (1 : Int32)) hx hb dX0_did_27 (by decide) ?_
      refine lv_isub hx hb dX0_did_28 ?_
      obtain ⟨r_6, e_5, h⟩ := bo_ex h
      refine r_calli (r_runS (rest := []) X hP (mt_X0_in l G σ a1 (0 : Int32) ((gI σ 0 23) - (1 : Int32)) e_5) (va_cwS 3 hts (lw_S q396 q397 q110 q398) rfl rfl rfl cdX0_in ⟨Nat.le_of_ble_eq_true rfl, Nat.le_of_ble_eq_true rfl⟩) rfl hl.1 rfl (Nat.le_of_ble_eq_true rfl) dX0_did_29 ⟨Nat.le_refl _, Nat.le_refl _⟩) hP (fun H locs hP => ?_)
      refine lv_if_ne (tgt := 37) hx hb dX0_did_32 (by decide) (fun c_7 => ?_) (fun c_7 => ?_)
      · have h := it_f h c_7
        refine lv_iload_n hx hb dX0_did_37 rfl (lv_at hl 2 rfl) ?_
        by_cases c_8 : a2 = (0 : Int32)
        · have h := it_t h c_8
          refine lv_tableIn (tgt := 64) hx hb dX0_did_38 (by rw [c_8]; decide) (by rw [c_8]; decide) (by rw [c_8]; rfl) (by decide) ?_
          refine lv_aload_n hx hb dX0_did_64 rfl (lv_at hl 0 rfl) ?_
          refine r_geta X hP 0 cp_c0 lk_0 17 (Nat.le_of_ble_eq_true rfl) q306 cp_f17 dX0_did_65 ?_
          refine r_getiN X hP (15 + 17 * 0) (mg_c 0 (by decide)) lk_2 16 (Nat.le_of_ble_eq_true rfl) q223 (mg_f16 0) dX0_did_68 ?_
          refine lv_if_ne (tgt := 78) hx hb dX0_did_71 (by decide) (fun c_9 => ?_) (fun c_9 => ?_)
          · have h := it_f h c_9
            refine lv_sipush (v := (1000 : Int32)) hx hb dX0_did_78 (by decide) ?_
            refine lv_aload_n hx hb dX0_did_81 rfl (lv_at hl 0 rfl) ?_
            refine r_geta X hP 0 cp_c0 lk_0 17 (Nat.le_of_ble_eq_true rfl) q306 cp_f17 dX0_did_82 ?_
            refine r_getaN X hP (15 + 17 * 0) (mg_c 0 (by decide)) lk_2 10 (Nat.le_of_ble_eq_true rfl) q214 (mg_f10 0) dX0_did_85 ?_
            refine lv_iload_n hx hb dX0_did_88 rfl (lv_at hl 1 rfl) ?_
            refine r_iald X hP (16 + 17 * 0 + 10) (mg_a10 0 (by decide)) (ck_in h) dX0_did_89 ?_
            have h := ck_k h
            refine lv_imul hx hb dX0_did_90 ?_
            refine lv_aload_n hx hb dX0_did_91 rfl (lv_at hl 0 rfl) ?_
            refine r_geta X hP 0 cp_c0 lk_0 17 (Nat.le_of_ble_eq_true rfl) q306 cp_f17 dX0_did_92 ?_
            refine r_getiN X hP (15 + 17 * 0) (mg_c 0 (by decide)) lk_2 16 (Nat.le_of_ble_eq_true rfl) q223 (mg_f16 0) dX0_did_95 ?_
            refine lv_idiv hx hb dX0_did_98 (nz_ne h) ?_
            have h := nz_k h
            exact hret _ _ _ _ _ _ dX0_did_99 rfl (congrArg (fun z9 => (z9, σ)) (Option.some.inj h)) hP
          · have h := it_t h c_9
            refine lv_iconst (v := (0 : Int32)) hx hb dX0_did_74 (by decide) ?_
            refine lv_goto (tgt := 99) hx hb dX0_did_75 (by decide) ?_
            exact hret _ _ _ _ _ _ dX0_did_99 rfl (congrArg (fun z9 => (z9, σ)) (Option.some.inj h)) hP
        · have h := it_f h c_8
          by_cases c_10 : a2 = (1 : Int32)
          · have h := it_t h c_10
            refine lv_tableIn (tgt := 100) hx hb dX0_did_38 (by rw [c_10]; decide) (by rw [c_10]; decide) (by rw [c_10]; rfl) (by decide) ?_
            refine lv_aload_n hx hb dX0_did_100 rfl (lv_at hl 0 rfl) ?_
            refine r_geta X hP 0 cp_c0 lk_0 17 (Nat.le_of_ble_eq_true rfl) q306 cp_f17 dX0_did_101 ?_
            refine r_getaN X hP (15 + 17 * 0) (mg_c 0 (by decide)) lk_2 11 (Nat.le_of_ble_eq_true rfl) q216 (mg_f11 0) dX0_did_104 ?_
            refine lv_iload_n hx hb dX0_did_107 rfl (lv_at hl 1 rfl) ?_
            refine r_iald X hP (16 + 17 * 0 + 11) (mg_a11 0 (by decide)) (ck_in h) dX0_did_108 ?_
            have h := ck_k h
            exact hret _ _ _ _ _ _ dX0_did_109 rfl (congrArg (fun z9 => (z9, σ)) (Option.some.inj h)) hP
          · have h := it_f h c_10
            by_cases c_11 : a2 = (2 : Int32)
            · have h := it_t h c_11
              refine lv_tableIn (tgt := 110) hx hb dX0_did_38 (by rw [c_11]; decide) (by rw [c_11]; decide) (by rw [c_11]; rfl) (by decide) ?_
              refine lv_aload_n hx hb dX0_did_110 rfl (lv_at hl 0 rfl) ?_
              refine r_geta X hP 0 cp_c0 lk_0 17 (Nat.le_of_ble_eq_true rfl) q306 cp_f17 dX0_did_111 ?_
              refine r_getaN X hP (15 + 17 * 0) (mg_c 0 (by decide)) lk_2 12 (Nat.le_of_ble_eq_true rfl) q218 (mg_f12 0) dX0_did_114 ?_
              refine lv_iload_n hx hb dX0_did_117 rfl (lv_at hl 1 rfl) ?_
              refine r_iald X hP (16 + 17 * 0 + 12) (mg_a12 0 (by decide)) (ck_in h) dX0_did_118 ?_
              have h := ck_k h
              exact hret _ _ _ _ _ _ dX0_did_119 rfl (congrArg (fun z9 => (z9, σ)) (Option.some.inj h)) hP
            · have h := it_f h c_11
              refine lv_tableOut (tgt := 120) hx hb dX0_did_38 (by have n0 := lv_neT c_8 (a := 0) (by decide); have n1 := lv_neT c_10 (a := 1) (by decide); have n2 := lv_neT c_11 (a := 2) (by decide); omega) (by decide) ?_
              refine lv_aload_n hx hb dX0_did_120 rfl (lv_at hl 0 rfl) ?_
              refine r_geta X hP 0 cp_c0 lk_0 21 (Nat.le_of_ble_eq_true rfl) q310 cp_f21 dX0_did_121 ?_
              refine lv_iload_n hx hb dX0_did_124 rfl (lv_at hl 1 rfl) ?_
              refine r_iald X hP 9 cp_c9 (ck_in h) dX0_did_125 ?_
              have h := ck_k h
              exact hret _ _ _ _ _ _ dX0_did_126 rfl (congrArg (fun z9 => (z9, σ)) (Option.some.inj h)) hP
      · have h := it_t h c_7
        refine lv_iconst (v := (-1 : Int32)) hx hb dX0_did_35 (by decide) ?_
        exact hret _ _ _ _ _ _ dX0_did_36 rfl (congrArg (fun z9 => (z9, σ)) (Option.some.inj h)) hP
    · have h := it_t h c_4
      refine lv_bipush (v := (-5 : Int32)) hx hb dX0_did_18 (by decide) ?_
      exact hret _ _ _ _ _ _ dX0_did_20 rfl (congrArg (fun z9 => (z9, σ)) (Option.some.inj h)) hP
  · have h := it_t h c_3
    refine lv_iconst (v := (-1 : Int32)) hx hb dX0_did_9 (by decide) ?_
    exact hret _ _ _ _ _ _ dX0_did_10 rfl (congrArg (fun z9 => (z9, σ)) (Option.some.inj h)) hP
def cp_first (σ : ST) (a1 : Int32) (a2 : Int32) : Option Int32 :=
  (if (gI σ 0 22) = 0 then some (-2000000000 : Int32) else bo (cp_in a1 (0 : Int32) ((gI σ 0 25) - (1 : Int32))) (fun (r_3 : Int32) => (if r_3 = 0 then some (-2000000000 : Int32) else bo (cp_in a2 (0 : Int32) (1 : Int32)) (fun (r_6 : Int32) => (if r_6 = 0 then some (-2000000000 : Int32) else (if a2 = 0 then ck a1 20 (some (lI σ (1 + 0) 8 a1)) else ck a1 20 (some (lI σ (1 + 0) 9 a1))))))))
abbrev rm_X0_first : Room := rmf 1 22
set_option maxHeartbeats 4000000 in
set_option maxRecDepth 100000 in
theorem mt_X0_first (l : Launch) (G : GT) (σ : ST) (a1 : Int32) (a2 : Int32) {r : Int32} (h : cp_first σ a1 a2 = some r) : CI l cp_ft G yX0_first (ws_ yX0_first cX0_first 3 (some .int)) rm_X0_first 0 0 [.ref (G.2.2.1 0), .int a1, .int a2] σ (r, σ) := by
  refine m_enterI (by decide) rfl (lv := [(0, .ref (G.2.2.1 0)), (1, .int a1), (2, .int a2)]) rfl ?_
  intro p e s m args below meth c H locs ls Q X hret hP hl
  have hx := X.1.1
  have hb := X.1.2.1
  have hown := X.1.2.2.2.1
  have hts := X.1.2.2.2.2
  unfold cp_first at h
  refine lv_aload_n hx hb dX0_first_0 rfl (lv_at hl 0 rfl) ?_
  refine r_geti X hP 0 cp_c0 lk_0 22 (Nat.le_of_ble_eq_true rfl) q311 cp_f22 dX0_first_1 ?_
  refine lv_if_eq (tgt := 30) hx hb dX0_first_4 (by decide) (fun c_1 => ?_) (fun c_1 => ?_)
  · have h := it_t h c_1
    refine lv_ldc hx hb hown (hts _ q632) dX0_first_30 ?_
    exact hret _ _ _ _ _ _ dX0_first_32 rfl (congrArg (fun z9 => (z9, σ)) (Option.some.inj h)) hP
  · have h := it_f h c_1
    refine lv_iload_n hx hb dX0_first_7 rfl (lv_at hl 1 rfl) ?_
    refine lv_iconst (v := (0 : Int32)) hx hb dX0_first_8 (by decide) ?_
    refine lv_aload_n hx hb dX0_first_9 rfl (lv_at hl 0 rfl) ?_
    refine r_geti X hP 0 cp_c0 lk_0 25 (Nat.le_of_ble_eq_true rfl) q314 cp_f25 dX0_first_10 ?_
    refine lv_iconst (v := (1 : Int32)) hx hb dX0_first_13 (by decide) ?_
    refine lv_isub hx hb dX0_first_14 ?_
    obtain ⟨r_3, e_2, h⟩ := bo_ex h
    refine r_calli (r_runS (rest := []) X hP (mt_X0_in l G σ a1 (0 : Int32) ((gI σ 0 25) - (1 : Int32)) e_2) (va_cwS 3 hts (lw_S q396 q397 q110 q398) rfl rfl rfl cdX0_in ⟨Nat.le_of_ble_eq_true rfl, Nat.le_of_ble_eq_true rfl⟩) rfl hl.1 rfl (Nat.le_of_ble_eq_true rfl) dX0_first_15 ⟨Nat.le_refl _, Nat.le_refl _⟩) hP (fun H locs hP => ?_)
    refine lv_if_eq (tgt := 30) hx hb dX0_first_18 (by decide) (fun c_4 => ?_) (fun c_4 => ?_)
    · have h := it_t h c_4
      refine lv_ldc hx hb hown (hts _ q632) dX0_first_30 ?_
      exact hret _ _ _ _ _ _ dX0_first_32 rfl (congrArg (fun z9 => (z9, σ)) (Option.some.inj h)) hP
    · have h := it_f h c_4
      refine lv_iload_n hx hb dX0_first_21 rfl (lv_at hl 2 rfl) ?_
      refine lv_iconst (v := (0 : Int32)) hx hb dX0_first_22 (by decide) ?_
      refine lv_iconst (v := (1 : Int32)) hx hb dX0_first_23 (by decide) ?_
      obtain ⟨r_6, e_5, h⟩ := bo_ex h
      refine r_calli (r_runS (rest := []) X hP (mt_X0_in l G σ a2 (0 : Int32) (1 : Int32) e_5) (va_cwS 3 hts (lw_S q396 q397 q110 q398) rfl rfl rfl cdX0_in ⟨Nat.le_of_ble_eq_true rfl, Nat.le_of_ble_eq_true rfl⟩) rfl hl.1 rfl (Nat.le_of_ble_eq_true rfl) dX0_first_24 ⟨Nat.le_refl _, Nat.le_refl _⟩) hP (fun H locs hP => ?_)
      refine lv_if_ne (tgt := 33) hx hb dX0_first_27 (by decide) (fun c_7 => ?_) (fun c_7 => ?_)
      · have h := it_f h c_7
        refine lv_iload_n hx hb dX0_first_33 rfl (lv_at hl 2 rfl) ?_
        refine lv_if_ne (tgt := 49) hx hb dX0_first_34 (by decide) (fun c_8 => ?_) (fun c_8 => ?_)
        · have h := it_f h c_8
          refine lv_aload_n hx hb dX0_first_49 rfl (lv_at hl 0 rfl) ?_
          refine r_geta X hP 0 cp_c0 lk_0 17 (Nat.le_of_ble_eq_true rfl) q306 cp_f17 dX0_first_50 ?_
          refine r_getaN X hP (15 + 17 * 0) (mg_c 0 (by decide)) lk_2 9 (Nat.le_of_ble_eq_true rfl) q212 (mg_f9 0) dX0_first_53 ?_
          refine lv_iload_n hx hb dX0_first_56 rfl (lv_at hl 1 rfl) ?_
          refine r_iald X hP (16 + 17 * 0 + 9) (mg_a9 0 (by decide)) (ck_in h) dX0_first_57 ?_
          have h := ck_k h
          exact hret _ _ _ _ _ _ dX0_first_58 rfl (congrArg (fun z9 => (z9, σ)) (Option.some.inj h)) hP
        · have h := it_t h c_8
          refine lv_aload_n hx hb dX0_first_37 rfl (lv_at hl 0 rfl) ?_
          refine r_geta X hP 0 cp_c0 lk_0 17 (Nat.le_of_ble_eq_true rfl) q306 cp_f17 dX0_first_38 ?_
          refine r_getaN X hP (15 + 17 * 0) (mg_c 0 (by decide)) lk_2 8 (Nat.le_of_ble_eq_true rfl) q210 (mg_f8 0) dX0_first_41 ?_
          refine lv_iload_n hx hb dX0_first_44 rfl (lv_at hl 1 rfl) ?_
          refine r_iald X hP (16 + 17 * 0 + 8) (mg_a8 0 (by decide)) (ck_in h) dX0_first_45 ?_
          have h := ck_k h
          refine lv_goto (tgt := 58) hx hb dX0_first_46 (by decide) ?_
          exact hret _ _ _ _ _ _ dX0_first_58 rfl (congrArg (fun z9 => (z9, σ)) (Option.some.inj h)) hP
      · have h := it_t h c_7
        refine lv_ldc hx hb hown (hts _ q632) dX0_first_30 ?_
        exact hret _ _ _ _ _ _ dX0_first_32 rfl (congrArg (fun z9 => (z9, σ)) (Option.some.inj h)) hP
def cp_look_K56 (σ : ST) (k1 : Int32) (k2 : Int32) (k3 : Int32) : Option ST :=
  st_ (pI σ 0 26 k1) (fun (σ_10 : ST) => st_ (pI σ_10 0 27 k2) (fun (σ_12 : ST) => st_ (pI σ_12 0 28 k3) (fun (σ_14 : ST) => some σ_14)))
def cp_look (σ : ST) (a1 : Int32) : Option ST :=
  bo (mg_decided 1 σ) (fun (r_2 : Int32) => bo (cp_byAll σ) (fun (r_4 : Int32) => bo (ig_bitCount (r_2 ^^^ r_4)) (fun (r_6 : Int32) => bo (mg_cost 1 σ) (fun (r_8 : Int32) => (if (gI σ 0 26) < 0 then (cp_look_K56 σ a1 r_6 r_8) else (if (gI σ 0 27) < r_6 then some σ else (if r_6 = (gI σ 0 27) then (if r_8 < (gI σ 0 28) then (cp_look_K56 σ a1 r_6 r_8) else some σ) else (cp_look_K56 σ a1 r_6 r_8))))))))
abbrev rm_X0_look : Room := rmf 3 56
set_option maxHeartbeats 4000000 in
set_option maxRecDepth 100000 in
theorem mt_X0_look (l : Launch) (G : GT) (σ : ST) (a1 : Int32) {u : ST} (h : cp_look σ a1 = some u) : CV l cp_ft G yX0_look (ws_ yX0_look cX0_look 4 none) rm_X0_look 0 0 [.ref (G.2.2.1 0), .int a1] σ u := by
  refine m_enterV (by decide) rfl (lv := [(0, .ref (G.2.2.1 0)), (1, .int a1)]) rfl ?_
  intro p e s m args below meth c H locs ls Q X hnm hret hP hl
  have hx := X.1.1
  have hb := X.1.2.1
  have hown := X.1.2.2.2.1
  have hts := X.1.2.2.2.2
  unfold cp_look at h
  refine lv_aload_n hx hb dX0_look_0 rfl (lv_at hl 0 rfl) ?_
  refine r_geta X hP 0 cp_c0 lk_0 18 (Nat.le_of_ble_eq_true rfl) q307 cp_f18 dX0_look_1 ?_
  obtain ⟨r_2, e_1, h⟩ := bo_ex h
  refine r_calli (r_runV (rest := []) X hP (15 + 17 * 1) (mg_c 1 (by decide)) lk_2 (mt_X2_decided l G 1 (by decide) σ e_1) (cwV 0 hts (lw_V q1042 q1043 q1044 q112 q1045) rfl rfl rfl ⟨rfl, cdX2_decided⟩ ⟨Nat.le_of_ble_eq_true rfl, Nat.le_of_ble_eq_true rfl⟩) rfl hl.1 rfl (Nat.le_of_ble_eq_true rfl) dX0_look_4 ⟨Nat.le_refl _, Nat.le_refl _⟩) hP (fun H locs hP => ?_)
  refine lv_aload_n hx hb dX0_look_7 rfl (lv_at hl 0 rfl) ?_
  obtain ⟨r_4, e_3, h⟩ := bo_ex h
  refine r_calli (r_runV (rest := [.int r_2]) X hP 0 cp_c0 lk_0 (mt_X0_byAll l G σ e_3) (cwV 0 hts (lw_V q1054 q1056 qs38 q110 q1057) rfl rfl rfl ⟨rfl, cdX0_byAll⟩ ⟨Nat.le_of_ble_eq_true rfl, Nat.le_of_ble_eq_true rfl⟩) rfl hl.1 rfl (Nat.le_of_ble_eq_true rfl) dX0_look_8 ⟨Nat.le_refl _, Nat.le_refl _⟩) hP (fun H locs hP => ?_)
  refine lv_ixor hx hb dX0_look_11 ?_
  obtain ⟨r_6, e_5, h⟩ := bo_ex h
  refine r_calli (r_runS (rest := []) X hP (mt_J13_bitCount l G σ (r_2 ^^^ r_4) e_5) (va_cwS 1 hts (lw_S q1066 q1067 q139 q1068) rfl rfl rfl cdJ13_bitCount ⟨Nat.le_of_ble_eq_true rfl, Nat.le_of_ble_eq_true rfl⟩) rfl hl.1 rfl (Nat.le_of_ble_eq_true rfl) dX0_look_12 ⟨Nat.le_refl _, Nat.le_refl _⟩) hP (fun H locs hP => ?_)
  refine lv_istore_n (lv' := [(2, .int r_6), (0, .ref (G.2.2.1 0)), (1, .int a1)]) hx hb dX0_look_15 rfl hl (by decide) rfl (fun ls hl => ?_)
  refine lv_aload_n hx hb dX0_look_16 rfl (lv_at hl 1 rfl) ?_
  refine r_geta X hP 0 cp_c0 lk_0 18 (Nat.le_of_ble_eq_true rfl) q307 cp_f18 dX0_look_17 ?_
  obtain ⟨r_8, e_7, h⟩ := bo_ex h
  refine r_calli (r_runV (rest := []) X hP (15 + 17 * 1) (mg_c 1 (by decide)) lk_2 (mt_X2_cost l G 1 (by decide) σ e_7) (cwV 0 hts (lw_V q1072 q1073 q1074 q112 q1075) rfl rfl rfl ⟨rfl, cdX2_cost⟩ ⟨Nat.le_of_ble_eq_true rfl, Nat.le_of_ble_eq_true rfl⟩) rfl hl.1 rfl (Nat.le_of_ble_eq_true rfl) dX0_look_20 ⟨Nat.le_refl _, Nat.le_refl _⟩) hP (fun H locs hP => ?_)
  refine lv_istore_n (lv' := [(3, .int r_8), (2, .int r_6), (0, .ref (G.2.2.1 0)), (1, .int a1)]) hx hb dX0_look_23 rfl hl (by decide) rfl (fun ls hl => ?_)
  refine lv_aload_n hx hb dX0_look_24 rfl (lv_at hl 2 rfl) ?_
  refine r_geti X hP 0 cp_c0 lk_0 26 (Nat.le_of_ble_eq_true rfl) q315 cp_f26 dX0_look_25 ?_
  have hK_9 : ∀ (H : Heap) (locs : List Loc) (ls : Array Slot), cp_look_K56 σ a1 r_6 r_8 = some u → PS cp_ft G s σ H locs → lv_has ls 4 [(0, .ref (G.2.2.1 0)), (1, .int a1), (2, .int r_6), (3, .int r_8)] → W p l e rm_X0_look s m args below meth c H locs 0 0 Q (F0 m 56 ls []) := by
    intro  H locs ls h hP hl
    unfold cp_look_K56 at h
    refine lv_aload_n hx hb dX0_look_56 rfl (lv_at hl 0 rfl) ?_
    refine lv_iload_n hx hb dX0_look_57 rfl (lv_at hl 1 rfl) ?_
    refine r_puti X cp_w hP 0 cp_c0 lk_0 26 (Nat.le_of_ble_eq_true rfl) q315 cp_f26 rfl (tyX0_ok 26 (by decide)) rfl rfl dX0_look_58 (fun σ_16 H locs e_17 hP => ?_)
    have h := st_k h e_17
    refine lv_aload_n hx hb dX0_look_61 rfl (lv_at hl 0 rfl) ?_
    refine lv_iload_n hx hb dX0_look_62 rfl (lv_at hl 2 rfl) ?_
    refine r_puti X cp_w hP 0 cp_c0 lk_0 27 (Nat.le_of_ble_eq_true rfl) q316 cp_f27 rfl (tyX0_ok 27 (by decide)) rfl rfl dX0_look_63 (fun σ_18 H locs e_19 hP => ?_)
    have h := st_k h e_19
    refine lv_aload_n hx hb dX0_look_66 rfl (lv_at hl 0 rfl) ?_
    refine lv_iload_n hx hb dX0_look_67 rfl (lv_at hl 3 rfl) ?_
    refine r_puti X cp_w hP 0 cp_c0 lk_0 28 (Nat.le_of_ble_eq_true rfl) q317 cp_f28 rfl (tyX0_ok 28 (by decide)) rfl rfl dX0_look_68 (fun σ_20 H locs e_21 hP => ?_)
    have h := st_k h e_21
    exact hret _ _ _ _ _ dX0_look_71 (Option.some.inj h) hP
  refine lv_if_lt (tgt := 56) hx hb dX0_look_28 (by decide) (fun c_22 => ?_) (fun c_22 => ?_)
  · have h := it_t h c_22
    exact hK_9  _ _ _ h hP (lv_sub hl [2, 3, 1, 0] rfl)
  · have h := it_f h c_22
    refine lv_iload_n hx hb dX0_look_31 rfl (lv_at hl 1 rfl) ?_
    refine lv_aload_n hx hb dX0_look_32 rfl (lv_at hl 2 rfl) ?_
    refine r_geti X hP 0 cp_c0 lk_0 27 (Nat.le_of_ble_eq_true rfl) q316 cp_f27 dX0_look_33 ?_
    refine lv_icmp_gt (tgt := 55) hx hb dX0_look_36 (by decide) (fun c_23 => ?_) (fun c_23 => ?_)
    · have h := it_t h c_23
      exact hret _ _ _ _ _ dX0_look_55 (Option.some.inj h) hP
    · have h := it_f h c_23
      refine lv_iload_n hx hb dX0_look_39 rfl (lv_at hl 1 rfl) ?_
      refine lv_aload_n hx hb dX0_look_40 rfl (lv_at hl 2 rfl) ?_
      refine r_geti X hP 0 cp_c0 lk_0 27 (Nat.le_of_ble_eq_true rfl) q316 cp_f27 dX0_look_41 ?_
      refine lv_icmp_ne (tgt := 56) hx hb dX0_look_44 (by decide) (fun c_24 => ?_) (fun c_24 => ?_)
      · have h := it_f h c_24
        exact hK_9  _ _ _ h hP (lv_sub hl [2, 3, 1, 0] rfl)
      · have h := it_t h c_24
        refine lv_iload_n hx hb dX0_look_47 rfl (lv_at hl 0 rfl) ?_
        refine lv_aload_n hx hb dX0_look_48 rfl (lv_at hl 2 rfl) ?_
        refine r_geti X hP 0 cp_c0 lk_0 28 (Nat.le_of_ble_eq_true rfl) q317 cp_f28 dX0_look_49 ?_
        refine lv_icmp_lt (tgt := 56) hx hb dX0_look_52 (by decide) (fun c_25 => ?_) (fun c_25 => ?_)
        · have h := it_t h c_25
          exact hK_9  _ _ _ h hP (lv_sub hl [2, 3, 1, 0] rfl)
        · have h := it_f h c_25
          exact hret _ _ _ _ _ dX0_look_55 (Option.some.inj h) hP
def cp_best (σ : ST) (a1 : Int32) : Option Int32 :=
  (if a1 = 0 then some (gI σ 0 26) else (if a1 = (1 : Int32) then some (gI σ 0 27) else some (gI σ 0 28)))
abbrev rm_X0_best : Room := rmf 0 0
set_option maxHeartbeats 4000000 in
set_option maxRecDepth 100000 in
theorem mt_X0_best (l : Launch) (G : GT) (σ : ST) (a1 : Int32) {r : Int32} (h : cp_best σ a1 = some r) : CI l cp_ft G yX0_best (ws_ yX0_best cX0_best 2 (some .int)) rm_X0_best 0 0 [.ref (G.2.2.1 0), .int a1] σ (r, σ) := by
  refine m_enterI (by decide) rfl (lv := [(0, .ref (G.2.2.1 0)), (1, .int a1)]) rfl ?_
  intro p e s m args below meth c H locs ls Q X hret hP hl
  have hx := X.1.1
  have hb := X.1.2.1
  have hown := X.1.2.2.2.1
  have hts := X.1.2.2.2.2
  unfold cp_best at h
  refine lv_iload_n hx hb dX0_best_0 rfl (lv_at hl 1 rfl) ?_
  refine lv_if_ne (tgt := 11) hx hb dX0_best_1 (by decide) (fun c_1 => ?_) (fun c_1 => ?_)
  · have h := it_f h c_1
    refine lv_iload_n hx hb dX0_best_11 rfl (lv_at hl 1 rfl) ?_
    refine lv_iconst (v := (1 : Int32)) hx hb dX0_best_12 (by decide) ?_
    refine lv_icmp_ne (tgt := 23) hx hb dX0_best_13 (by decide) (fun c_2 => ?_) (fun c_2 => ?_)
    · have h := it_f h c_2
      refine lv_aload_n hx hb dX0_best_23 rfl (lv_at hl 0 rfl) ?_
      refine r_geti X hP 0 cp_c0 lk_0 28 (Nat.le_of_ble_eq_true rfl) q317 cp_f28 dX0_best_24 ?_
      exact hret _ _ _ _ _ _ dX0_best_27 rfl (congrArg (fun z9 => (z9, σ)) (Option.some.inj h)) hP
    · have h := it_t h c_2
      refine lv_aload_n hx hb dX0_best_16 rfl (lv_at hl 0 rfl) ?_
      refine r_geti X hP 0 cp_c0 lk_0 27 (Nat.le_of_ble_eq_true rfl) q316 cp_f27 dX0_best_17 ?_
      refine lv_goto (tgt := 27) hx hb dX0_best_20 (by decide) ?_
      exact hret _ _ _ _ _ _ dX0_best_27 rfl (congrArg (fun z9 => (z9, σ)) (Option.some.inj h)) hP
  · have h := it_t h c_1
    refine lv_aload_n hx hb dX0_best_4 rfl (lv_at hl 0 rfl) ?_
    refine r_geti X hP 0 cp_c0 lk_0 26 (Nat.le_of_ble_eq_true rfl) q315 cp_f26 dX0_best_5 ?_
    refine lv_goto (tgt := 27) hx hb dX0_best_8 (by decide) ?_
    exact hret _ _ _ _ _ _ dX0_best_27 rfl (congrArg (fun z9 => (z9, σ)) (Option.some.inj h)) hP
def cp_rule_B32 (l1 : Int32) (rc32 : Int32 → ST → Option (ST)) (w2 : Int32) (σ : ST) : Option (ST) :=
  (if (5 : Int32) < w2 then some (σ) else bo (mg_go 1 σ w2 (gI σ 0 8) (-1 : Int32)) (fun (σ_13 : ST) => bo (cp_look σ_13 w2) (fun (σ_15 : ST) => (rc32 (w2 + (1 : Int32)) σ_15))))
def cp_rule (σ : ST) (a1 : Int32) : Option (Int32 × ST) :=
  bo (cp_in a1 (0 : Int32) (2 : Int32)) (fun (r_2 : Int32) => (if r_2 = 0 then some ((-1 : Int32), σ) else bo (cp_isEmpty σ) (fun (r_5 : Int32) => (if r_5 = 0 then bo (cp_asTheyCame σ) (fun (σ_8 : ST) => st_ (pI σ_8 0 26 (-1 : Int32)) (fun (σ_9 : ST) => bo (wl2 (cp_rule_B32 a1) FU (0 : Int32) σ_9) (fun (σ_17 : ST) => bo (cp_best σ_17 a1) (fun (r_21 : Int32) => some (r_21, σ_17))))) else some ((-5 : Int32), σ)))))
abbrev rm_X0_rule : Room := rmf 266 7942
set_option maxHeartbeats 4000000 in
set_option maxRecDepth 100000 in
theorem mt_X0_rule (l : Launch) (G : GT) (σ : ST) (a1 : Int32) {r : Int32} {u : ST} (h : cp_rule σ a1 = some (r, u)) : CI l cp_ft G yX0_rule (ws_ yX0_rule cX0_rule 3 (some .int)) rm_X0_rule 0 0 [.ref (G.2.2.1 0), .int a1] σ (r, u) := by
  refine m_enterI (by decide) rfl (lv := [(0, .ref (G.2.2.1 0)), (1, .int a1)]) rfl ?_
  intro p e s m args below meth c H locs ls Q X hret hP hl
  have hx := X.1.1
  have hb := X.1.2.1
  have hown := X.1.2.2.2.1
  have hts := X.1.2.2.2.2
  unfold cp_rule at h
  refine lv_iload_n hx hb dX0_rule_0 rfl (lv_at hl 1 rfl) ?_
  refine lv_iconst (v := (0 : Int32)) hx hb dX0_rule_1 (by decide) ?_
  refine lv_iconst (v := (2 : Int32)) hx hb dX0_rule_2 (by decide) ?_
  obtain ⟨r_2, e_1, h⟩ := bo_ex h
  refine r_calli (r_runS (rest := []) X hP (mt_X0_in l G σ a1 (0 : Int32) (2 : Int32) e_1) (va_cwS 3 hts (lw_S q396 q397 q110 q398) rfl rfl rfl cdX0_in ⟨Nat.le_of_ble_eq_true rfl, Nat.le_of_ble_eq_true rfl⟩) rfl hl.1 rfl (Nat.le_of_ble_eq_true rfl) dX0_rule_3 ⟨Nat.le_refl _, Nat.le_refl _⟩) hP (fun H locs hP => ?_)
  refine lv_if_ne (tgt := 11) hx hb dX0_rule_6 (by decide) (fun c_3 => ?_) (fun c_3 => ?_)
  · have h := it_f h c_3
    refine lv_aload_n hx hb dX0_rule_11 rfl (lv_at hl 0 rfl) ?_
    obtain ⟨r_5, e_4, h⟩ := bo_ex h
    refine r_calli (r_runV (rest := []) X hP 0 cp_c0 lk_0 (mt_X0_isEmpty l G σ e_4) (cwV 0 hts (lw_V q936 q938 qs22 q110 q939) rfl rfl rfl ⟨rfl, cdX0_isEmpty⟩ ⟨Nat.le_of_ble_eq_true rfl, Nat.le_of_ble_eq_true rfl⟩) rfl hl.1 rfl (Nat.le_of_ble_eq_true rfl) dX0_rule_12 ⟨Nat.le_refl _, Nat.le_refl _⟩) hP (fun H locs hP => ?_)
    refine lv_if_eq (tgt := 21) hx hb dX0_rule_15 (by decide) (fun c_6 => ?_) (fun c_6 => ?_)
    · have h := it_t h c_6
      refine lv_aload_n hx hb dX0_rule_21 rfl (lv_at hl 0 rfl) ?_
      obtain ⟨σ_8, e_7, h⟩ := bo_ex h
      refine r_callv (r_runV (rest := []) X hP 0 cp_c0 lk_0 (mt_X0_asTheyCame l G σ e_7) (cwV 0 hts (lw_V q932 q934 qs21 q110 q935) rfl rfl rfl ⟨rfl, cdX0_asTheyCame⟩ ⟨Nat.le_of_ble_eq_true rfl, Nat.le_of_ble_eq_true rfl⟩) rfl hl.1 rfl (Nat.le_of_ble_eq_true rfl) dX0_rule_22 ⟨Nat.le_refl _, Nat.le_refl _⟩) hP (fun H locs hP => ?_)
      refine lv_aload_n hx hb dX0_rule_25 rfl (lv_at hl 0 rfl) ?_
      refine lv_iconst (v := (-1 : Int32)) hx hb dX0_rule_26 (by decide) ?_
      refine r_puti X cp_w hP 0 cp_c0 lk_0 26 (Nat.le_of_ble_eq_true rfl) q315 cp_f26 rfl (tyX0_ok 26 (by decide)) rfl rfl dX0_rule_27 (fun σ_9 H locs e_10 hP => ?_)
      have h := st_k h e_10
      refine lv_iconst (v := (0 : Int32)) hx hb dX0_rule_30 (by decide) ?_
      refine lv_istore_n (lv' := [(2, .int (0 : Int32)), (0, .ref (G.2.2.1 0)), (1, .int a1)]) hx hb dX0_rule_31 rfl hl (by decide) rfl (fun ls hl => ?_)
      obtain ⟨σ_17, h_18, h⟩ := bo_ex h
      have hE_19 : ∀ (H : Heap) (locs : List Loc) (ls : Array Slot), PS cp_ft G s σ_17 H locs → lv_has ls 3 [(0, .ref (G.2.2.1 0)), (1, .int a1)] → W p l e rm_X0_rule s m args below meth c H locs 0 0 Q (F0 m 65 ls []) := by
        intro H locs ls hP hl
        refine lv_aload_n hx hb dX0_rule_65 rfl (lv_at hl 0 rfl) ?_
        refine lv_iload_n hx hb dX0_rule_66 rfl (lv_at hl 1 rfl) ?_
        obtain ⟨r_21, e_20, h⟩ := bo_ex h
        refine r_calli (r_runV (rest := []) X hP 0 cp_c0 lk_0 (mt_X0_best l G σ_17 a1 e_20) (cwV 1 hts (lw_V q1121 q1123 qs43 q110 q1124) rfl rfl rfl ⟨rfl, cdX0_best⟩ ⟨Nat.le_of_ble_eq_true rfl, Nat.le_of_ble_eq_true rfl⟩) rfl hl.1 rfl (Nat.le_of_ble_eq_true rfl) dX0_rule_67 ⟨Nat.le_refl _, Nat.le_refl _⟩) hP (fun H locs hP => ?_)
        exact hret _ _ _ _ _ _ dX0_rule_70 rfl (Option.some.inj h) hP
      have hL_16 : ∀ (n : Nat) (w_22 : Int32) (σ_23 : ST) (H : Heap) (locs : List Loc) (ls : Array Slot), wl2 (cp_rule_B32 a1) n w_22 σ_23 = some σ_17 → PS cp_ft G s σ_23 H locs → lv_has ls 3 [(0, .ref (G.2.2.1 0)), (1, .int a1), (2, .int w_22)] → W p l e rm_X0_rule s m args below meth c H locs 0 0 Q (F0 m 32 ls []) := by
        intro n
        induction n with
        | zero => intro w_22 σ_23 H locs ls h_24; cases h_24
        | succ n ih =>
          intro w_22 σ_23 H locs ls h_24 hP hl
          have h_24 : cp_rule_B32 a1 (wl2 (cp_rule_B32 a1) n) w_22 σ_23 = some _ := h_24
          generalize wl2 (cp_rule_B32 a1) n = rc_25 at h_24 ih
          unfold cp_rule_B32 at h_24
          refine lv_iload_n hx hb dX0_rule_32 rfl (lv_at hl 2 rfl) ?_
          refine lv_iconst (v := (5 : Int32)) hx hb dX0_rule_33 (by decide) ?_
          refine lv_icmp_gt (tgt := 65) hx hb dX0_rule_34 (by decide) (fun c_26 => ?_) (fun c_26 => ?_)
          · have h_24 := it_t h_24 c_26
            obtain rfl := Option.some.inj h_24
            exact hE_19 _ _ _ hP (lv_sub hl [0, 1] rfl)
          · have h_24 := it_f h_24 c_26
            refine lv_aload_n hx hb dX0_rule_37 rfl (lv_at hl 0 rfl) ?_
            refine r_geta X hP 0 cp_c0 lk_0 18 (Nat.le_of_ble_eq_true rfl) q307 cp_f18 dX0_rule_38 ?_
            refine lv_aload_n hx hb dX0_rule_41 rfl (lv_at hl 0 rfl) ?_
            refine r_geta X hP 0 cp_c0 lk_0 16 (Nat.le_of_ble_eq_true rfl) q305 cp_f16 dX0_rule_42 ?_
            refine lv_iload_n hx hb dX0_rule_45 rfl (lv_at hl 2 rfl) ?_
            refine lv_aload_n hx hb dX0_rule_46 rfl (lv_at hl 0 rfl) ?_
            refine r_geti X hP 0 cp_c0 lk_0 8 (Nat.le_of_ble_eq_true rfl) q295 cp_f8 dX0_rule_47 ?_
            refine lv_iconst (v := (-1 : Int32)) hx hb dX0_rule_50 (by decide) ?_
            obtain ⟨σ_28, e_27, h_24⟩ := bo_ex h_24
            refine r_callv (r_runV (rest := []) X hP (15 + 17 * 1) (mg_c 1 (by decide)) lk_2 (mt_X2_go l G 1 (by decide) σ_23 w_22 (gI σ_23 0 8) (-1 : Int32) e_27) (cwV 4 hts (lw_V q940 q941 q942 q112 q943) rfl rfl rfl ⟨rfl, cdX2_go⟩ ⟨Nat.le_of_ble_eq_true rfl, Nat.le_of_ble_eq_true rfl⟩) rfl hl.1 rfl (Nat.le_of_ble_eq_true rfl) dX0_rule_51 ⟨Nat.le_refl _, Nat.le_refl _⟩) hP (fun H locs hP => ?_)
            refine lv_aload_n hx hb dX0_rule_54 rfl (lv_at hl 0 rfl) ?_
            refine lv_iload_n hx hb dX0_rule_55 rfl (lv_at hl 2 rfl) ?_
            obtain ⟨σ_30, e_29, h_24⟩ := bo_ex h_24
            refine r_callv (r_runV (rest := []) X hP 0 cp_c0 lk_0 (mt_X0_look l G σ_28 w_22 e_29) (cwV 1 hts (lw_V q1117 q1119 qs42 q110 q1120) rfl rfl rfl ⟨rfl, cdX0_look⟩ ⟨Nat.le_of_ble_eq_true rfl, Nat.le_of_ble_eq_true rfl⟩) rfl hl.1 rfl (Nat.le_of_ble_eq_true rfl) dX0_rule_56 ⟨Nat.le_refl _, Nat.le_refl _⟩) hP (fun H locs hP => ?_)
            refine lv_iinc (v := (w_22 + (1 : Int32))) (lv' := [(2, .int (w_22 + (1 : Int32))), (0, .ref (G.2.2.1 0)), (1, .int a1)]) hx hb dX0_rule_59 hl (k := 2) rfl rfl (by decide) rfl (fun ls hl => ?_)
            refine lv_goto (tgt := 32) hx hb dX0_rule_62 (by decide) ?_
            exact ih _ _ _ _ _ h_24 hP (lv_sub hl [1, 2, 0] rfl)
      exact hL_16 _ _ _ _ _ _ h_18 hP (lv_sub hl [1, 2, 0] rfl)
    · have h := it_f h c_6
      refine lv_bipush (v := (-5 : Int32)) hx hb dX0_rule_18 (by decide) ?_
      exact hret _ _ _ _ _ _ dX0_rule_20 rfl (Option.some.inj h) hP
  · have h := it_t h c_3
    refine lv_iconst (v := (-1 : Int32)) hx hb dX0_rule_9 (by decide) ?_
    exact hret _ _ _ _ _ _ dX0_rule_10 rfl (Option.some.inj h) hP
def cp_tryOrdersB_B37 (fg : ST → Int32 → Int32 → Int32 → Option ST) (l1 : Int32) (l2 : Int32) (l3 : Int32) (rc37 : Int32 → ST → Option (ST)) (w4 : Int32) (σ : ST) : Option (ST) :=
  (if (gI σ 0 4) ≤ w4 then some (σ) else bo (if ((l2 >>> (w4 &&& 31)) &&& (1 : Int32)) = (1 : Int32) then some (σ) else ck l1 6 (st_ (aI σ 0 16 l1 w4) (fun (σ_7 : ST) => bo (fg σ_7 (l1 + (1 : Int32)) (l2 ||| ((1 : Int32) <<< (w4 &&& 31))) ((((10 : Int32) * l3) + w4) + (1 : Int32))) (fun (σ_10 : ST) => some (σ_10))))) (fun (σ_3 : ST) => (rc37 (w4 + (1 : Int32)) σ_3)))
def cp_tryOrdersB (fg : ST → Int32 → Int32 → Int32 → Option ST) (σ : ST) (a1 : Int32) (a2 : Int32) (a3 : Int32) : Option ST :=
  (if a1 = (gI σ 0 4) then bo (mg_go 1 σ (gI σ 0 6) (gI σ 0 8) (-1 : Int32)) (fun (σ_29 : ST) => bo (cp_look σ_29 a3) (fun (σ_31 : ST) => some σ_31)) else bo (wl2 (cp_tryOrdersB_B37 fg a1 a2 a3) FU (0 : Int32) σ) (fun (σ_12 : ST) => some σ_12))
set_option maxHeartbeats 4000000 in
set_option maxRecDepth 100000 in
theorem mt_X0_tryOrders (l : Launch) (G : GT) {f lo : Nat} (fg : ST → Int32 → Int32 → Int32 → Option ST) (hfg : ∀ (σ : ST) (b0 : Int32) (b1 : Int32) (b2 : Int32) {u : ST}, fg σ b0 b1 b2 = some u → CV l cp_ft G yX0_tryOrders (ws_ yX0_tryOrders cX0_tryOrders 5 none) (rmf f lo) 0 0 [.ref (G.2.2.1 0), .int b0, .int b1, .int b2] σ u) (σ : ST) (a1 : Int32) (a2 : Int32) (a3 : Int32) {u : ST} (h : cp_tryOrdersB fg σ a1 a2 a3 = some u) : CV l cp_ft G yX0_tryOrders (ws_ yX0_tryOrders cX0_tryOrders 5 none) (rmf (f + 266) (lo + 7942)) 0 0 [.ref (G.2.2.1 0), .int a1, .int a2, .int a3] σ u := by
  refine m_enterV (by decide) rfl (lv := [(0, .ref (G.2.2.1 0)), (1, .int a1), (2, .int a2), (3, .int a3)]) rfl ?_
  intro p e s m args below meth c H locs ls Q X hnm hret hP hl
  have hx := X.1.1
  have hb := X.1.2.1
  have hown := X.1.2.2.2.1
  have hts := X.1.2.2.2.2
  unfold cp_tryOrdersB at h
  refine lv_iload_n hx hb dX0_tryOrders_0 rfl (lv_at hl 1 rfl) ?_
  refine lv_aload_n hx hb dX0_tryOrders_1 rfl (lv_at hl 0 rfl) ?_
  refine r_geti X hP 0 cp_c0 lk_0 4 (Nat.le_of_ble_eq_true rfl) q289 cp_f4 dX0_tryOrders_2 ?_
  refine lv_icmp_ne (tgt := 34) hx hb dX0_tryOrders_5 (by decide) (fun c_1 => ?_) (fun c_1 => ?_)
  · have h := it_f h c_1
    refine lv_iconst (v := (0 : Int32)) hx hb dX0_tryOrders_34 (by decide) ?_
    refine lv_istore (lv' := [(4, .int (0 : Int32)), (0, .ref (G.2.2.1 0)), (1, .int a1), (2, .int a2), (3, .int a3)]) hx hb dX0_tryOrders_35 hl (by decide) rfl (fun ls hl => ?_)
    obtain ⟨σ_12, h_13, h⟩ := bo_ex h
    have hE_14 : ∀ (H : Heap) (locs : List Loc) (ls : Array Slot), PS cp_ft G s σ_12 H locs → lv_has ls 5 [] → W p l e (rmf (f + 266) (lo + 7942)) s m args below meth c H locs 0 0 Q (F0 m 95 ls []) := by
      intro H locs ls hP hl
      exact hret _ _ _ _ _ dX0_tryOrders_95 (Option.some.inj h) hP
    have hL_11 : ∀ (n : Nat) (w_15 : Int32) (σ_16 : ST) (H : Heap) (locs : List Loc) (ls : Array Slot), wl2 (cp_tryOrdersB_B37 fg a1 a2 a3) n w_15 σ_16 = some σ_12 → PS cp_ft G s σ_16 H locs → lv_has ls 5 [(0, .ref (G.2.2.1 0)), (1, .int a1), (2, .int a2), (3, .int a3), (4, .int w_15)] → W p l e (rmf (f + 266) (lo + 7942)) s m args below meth c H locs 0 0 Q (F0 m 37 ls []) := by
      intro n
      induction n with
      | zero => intro w_15 σ_16 H locs ls h_17; cases h_17
      | succ n ih =>
        intro w_15 σ_16 H locs ls h_17 hP hl
        have h_17 : cp_tryOrdersB_B37 fg a1 a2 a3 (wl2 (cp_tryOrdersB_B37 fg a1 a2 a3) n) w_15 σ_16 = some _ := h_17
        generalize wl2 (cp_tryOrdersB_B37 fg a1 a2 a3) n = rc_18 at h_17 ih
        unfold cp_tryOrdersB_B37 at h_17
        refine lv_iload hx hb dX0_tryOrders_37 (lv_at hl 4 rfl) ?_
        refine lv_aload_n hx hb dX0_tryOrders_39 rfl (lv_at hl 0 rfl) ?_
        refine r_geti X hP 0 cp_c0 lk_0 4 (Nat.le_of_ble_eq_true rfl) q289 cp_f4 dX0_tryOrders_40 ?_
        refine lv_icmp_ge (tgt := 95) hx hb dX0_tryOrders_43 (by decide) (fun c_19 => ?_) (fun c_19 => ?_)
        · have h_17 := it_t h_17 c_19
          obtain rfl := Option.some.inj h_17
          exact hE_14 _ _ _ hP (lv_sub hl [] rfl)
        · have h_17 := it_f h_17 c_19
          refine lv_iload_n hx hb dX0_tryOrders_46 rfl (lv_at hl 2 rfl) ?_
          refine lv_iload hx hb dX0_tryOrders_47 (lv_at hl 4 rfl) ?_
          refine lv_ishr hx hb dX0_tryOrders_49 ?_
          refine lv_iconst (v := (1 : Int32)) hx hb dX0_tryOrders_50 (by decide) ?_
          refine lv_iand hx hb dX0_tryOrders_51 ?_
          refine lv_iconst (v := (1 : Int32)) hx hb dX0_tryOrders_52 (by decide) ?_
          obtain ⟨σ_20, h_21, h_17⟩ := bo_ex h_17
          have hJ_22 : ∀ (H : Heap) (locs : List Loc) (ls : Array Slot), PS cp_ft G s σ_20 H locs → lv_has ls 5 [(0, .ref (G.2.2.1 0)), (1, .int a1), (2, .int a2), (3, .int a3), (4, .int w_15)] → W p l e (rmf (f + 266) (lo + 7942)) s m args below meth c H locs 0 0 Q (F0 m 89 ls []) := by
            intro H locs ls hP hl
            refine lv_iinc (v := (w_15 + (1 : Int32))) (lv' := [(4, .int (w_15 + (1 : Int32))), (0, .ref (G.2.2.1 0)), (1, .int a1), (2, .int a2), (3, .int a3)]) hx hb dX0_tryOrders_89 hl (k := 4) rfl rfl (by decide) rfl (fun ls hl => ?_)
            refine lv_goto (tgt := 37) hx hb dX0_tryOrders_92 (by decide) ?_
            exact ih _ _ _ _ _ h_17 hP (lv_sub hl [1, 2, 3, 4, 0] rfl)
          refine lv_icmp_ne (tgt := 59) hx hb dX0_tryOrders_53 (by decide) (fun c_23 => ?_) (fun c_23 => ?_)
          · have h_21 := it_f h_21 c_23
            refine lv_aload_n hx hb dX0_tryOrders_59 rfl (lv_at hl 0 rfl) ?_
            refine r_geta X hP 0 cp_c0 lk_0 16 (Nat.le_of_ble_eq_true rfl) q305 cp_f16 dX0_tryOrders_60 ?_
            refine lv_iload_n hx hb dX0_tryOrders_63 rfl (lv_at hl 1 rfl) ?_
            refine lv_iload hx hb dX0_tryOrders_64 (lv_at hl 4 rfl) ?_
            refine r_iast X cp_w hP 6 cp_c6 (ck_in h_21) dX0_tryOrders_66 (fun σ_24 H locs e_25 hP => ?_)
            have h_21 := st_k (ck_k h_21) e_25
            refine lv_aload_n hx hb dX0_tryOrders_67 rfl (lv_at hl 0 rfl) ?_
            refine lv_iload_n hx hb dX0_tryOrders_68 rfl (lv_at hl 1 rfl) ?_
            refine lv_iconst (v := (1 : Int32)) hx hb dX0_tryOrders_69 (by decide) ?_
            refine lv_iadd hx hb dX0_tryOrders_70 ?_
            refine lv_iload_n hx hb dX0_tryOrders_71 rfl (lv_at hl 2 rfl) ?_
            refine lv_iconst (v := (1 : Int32)) hx hb dX0_tryOrders_72 (by decide) ?_
            refine lv_iload hx hb dX0_tryOrders_73 (lv_at hl 4 rfl) ?_
            refine lv_ishl hx hb dX0_tryOrders_75 ?_
            refine lv_ior hx hb dX0_tryOrders_76 ?_
            refine lv_bipush (v := (10 : Int32)) hx hb dX0_tryOrders_77 (by decide) ?_
            refine lv_iload_n hx hb dX0_tryOrders_79 rfl (lv_at hl 3 rfl) ?_
            refine lv_imul hx hb dX0_tryOrders_80 ?_
            refine lv_iload hx hb dX0_tryOrders_81 (lv_at hl 4 rfl) ?_
            refine lv_iadd hx hb dX0_tryOrders_83 ?_
            refine lv_iconst (v := (1 : Int32)) hx hb dX0_tryOrders_84 (by decide) ?_
            refine lv_iadd hx hb dX0_tryOrders_85 ?_
            obtain ⟨σ_27, e_26, h_21⟩ := bo_ex h_21
            refine r_callv (r_runV (rest := []) X hP 0 cp_c0 lk_0 (hfg σ_24 (a1 + (1 : Int32)) (a2 ||| ((1 : Int32) <<< (w_15 &&& 31))) ((((10 : Int32) * a3) + w_15) + (1 : Int32)) e_26) (cwV 3 hts (lw_V q1129 q1131 qs44 q110 q1132) rfl rfl rfl ⟨rfl, cdX0_tryOrders⟩ (rm_le (by omega) (by omega))) rfl hl.1 rfl (Nat.le_of_ble_eq_true rfl) dX0_tryOrders_86 ⟨Nat.le_refl _, Nat.le_refl _⟩) hP (fun H locs hP => ?_)
            obtain rfl := Option.some.inj h_21
            exact hJ_22 _ _ _ hP (lv_sub hl [0, 1, 2, 3, 4] rfl)
          · have h_21 := it_t h_21 c_23
            refine lv_goto (tgt := 89) hx hb dX0_tryOrders_56 (by decide) ?_
            obtain rfl := Option.some.inj h_21
            exact hJ_22 _ _ _ hP (lv_sub hl [0, 1, 2, 3, 4] rfl)
    exact hL_11 _ _ _ _ _ _ h_13 hP (lv_sub hl [1, 2, 3, 4, 0] rfl)
  · have h := it_t h c_1
    refine lv_aload_n hx hb dX0_tryOrders_8 rfl (lv_at hl 0 rfl) ?_
    refine r_geta X hP 0 cp_c0 lk_0 18 (Nat.le_of_ble_eq_true rfl) q307 cp_f18 dX0_tryOrders_9 ?_
    refine lv_aload_n hx hb dX0_tryOrders_12 rfl (lv_at hl 0 rfl) ?_
    refine r_geta X hP 0 cp_c0 lk_0 16 (Nat.le_of_ble_eq_true rfl) q305 cp_f16 dX0_tryOrders_13 ?_
    refine lv_aload_n hx hb dX0_tryOrders_16 rfl (lv_at hl 0 rfl) ?_
    refine r_geti X hP 0 cp_c0 lk_0 6 (Nat.le_of_ble_eq_true rfl) q292 cp_f6 dX0_tryOrders_17 ?_
    refine lv_aload_n hx hb dX0_tryOrders_20 rfl (lv_at hl 0 rfl) ?_
    refine r_geti X hP 0 cp_c0 lk_0 8 (Nat.le_of_ble_eq_true rfl) q295 cp_f8 dX0_tryOrders_21 ?_
    refine lv_iconst (v := (-1 : Int32)) hx hb dX0_tryOrders_24 (by decide) ?_
    obtain ⟨σ_29, e_28, h⟩ := bo_ex h
    refine r_callv (r_runV (rest := []) X hP (15 + 17 * 1) (mg_c 1 (by decide)) lk_2 (mt_X2_go l G 1 (by decide) σ (gI σ 0 6) (gI σ 0 8) (-1 : Int32) e_28) (cwV 4 hts (lw_V q940 q941 q942 q112 q943) rfl rfl rfl ⟨rfl, cdX2_go⟩ (rm_le (by omega) (by omega))) rfl hl.1 rfl (Nat.le_of_ble_eq_true rfl) dX0_tryOrders_25 ⟨Nat.le_refl _, Nat.le_refl _⟩) hP (fun H locs hP => ?_)
    refine lv_aload_n hx hb dX0_tryOrders_28 rfl (lv_at hl 0 rfl) ?_
    refine lv_iload_n hx hb dX0_tryOrders_29 rfl (lv_at hl 3 rfl) ?_
    obtain ⟨σ_31, e_30, h⟩ := bo_ex h
    refine r_callv (r_runV (rest := []) X hP 0 cp_c0 lk_0 (mt_X0_look l G σ_29 a3 e_30) (cwV 1 hts (lw_V q1117 q1119 qs42 q110 q1120) rfl rfl rfl ⟨rfl, cdX0_look⟩ (rm_le (by omega) (by omega))) rfl hl.1 rfl (Nat.le_of_ble_eq_true rfl) dX0_tryOrders_30 ⟨Nat.le_refl _, Nat.le_refl _⟩) hP (fun H locs hP => ?_)
    exact hret _ _ _ _ _ dX0_tryOrders_33 (Option.some.inj h) hP
def cp_tryOrders : Nat → ST → Int32 → Int32 → Int32 → Option ST
  | 0, _, _, _, _ => none
  | n + 1, σ, b0, b1, b2 => cp_tryOrdersB (cp_tryOrders n) σ b0 b1 b2
theorem mt_tryOrders (l : Launch) (G : GT) : ∀ (n : Nat) (σ : ST) (b0 b1 b2 : Int32) {u : ST}, cp_tryOrders n σ b0 b1 b2 = some u → CV l cp_ft G yX0_tryOrders (ws_ yX0_tryOrders cX0_tryOrders 5 none) (rmf (n * 266) (n * 7942)) 0 0 [.ref (G.2.2.1 0), .int b0, .int b1, .int b2] σ u := by
  intro n
  induction n with
  | zero => intro σ b0 b1 b2 u h; cases h
  | succ n ih =>
    intro σ b0 b1 b2 u h
    have h1 := mt_X0_tryOrders l G (cp_tryOrders n) (fun σ b0 b1 b2 => ih σ b0 b1 b2) σ b0 b1 b2 h
    rw [Nat.succ_mul, Nat.succ_mul]
    exact h1
def cp_order (σ : ST) (a1 : Int32) : Option (Int32 × ST) :=
  bo (cp_in a1 (0 : Int32) (2 : Int32)) (fun (r_2 : Int32) => (if r_2 = 0 then some ((-1 : Int32), σ) else bo (cp_isEmpty σ) (fun (r_5 : Int32) => (if r_5 = 0 then (if (gI σ 0 4) ≤ (5 : Int32) then st_ (pI σ 0 26 (-1 : Int32)) (fun (σ_8 : ST) => bo (cp_tryOrders 7 σ_8 (0 : Int32) (0 : Int32) (0 : Int32)) (fun (σ_11 : ST) => bo (cp_best σ_11 a1) (fun (r_13 : Int32) => some (r_13, σ_11)))) else some ((-5 : Int32), σ)) else some ((-5 : Int32), σ)))))
abbrev rm_X0_order : Room := rmf 1863 55618
set_option maxHeartbeats 4000000 in
set_option maxRecDepth 100000 in
theorem mt_X0_order (l : Launch) (G : GT) (σ : ST) (a1 : Int32) {r : Int32} {u : ST} (h : cp_order σ a1 = some (r, u)) : CI l cp_ft G yX0_order (ws_ yX0_order cX0_order 2 (some .int)) rm_X0_order 0 0 [.ref (G.2.2.1 0), .int a1] σ (r, u) := by
  refine m_enterI (by decide) rfl (lv := [(0, .ref (G.2.2.1 0)), (1, .int a1)]) rfl ?_
  intro p e s m args below meth c H locs ls Q X hret hP hl
  have hx := X.1.1
  have hb := X.1.2.1
  have hown := X.1.2.2.2.1
  have hts := X.1.2.2.2.2
  unfold cp_order at h
  refine lv_iload_n hx hb dX0_order_0 rfl (lv_at hl 1 rfl) ?_
  refine lv_iconst (v := (0 : Int32)) hx hb dX0_order_1 (by decide) ?_
  refine lv_iconst (v := (2 : Int32)) hx hb dX0_order_2 (by decide) ?_
  obtain ⟨r_2, e_1, h⟩ := bo_ex h
  refine r_calli (r_runS (rest := []) X hP (mt_X0_in l G σ a1 (0 : Int32) (2 : Int32) e_1) (va_cwS 3 hts (lw_S q396 q397 q110 q398) rfl rfl rfl cdX0_in ⟨Nat.le_of_ble_eq_true rfl, Nat.le_of_ble_eq_true rfl⟩) rfl hl.1 rfl (Nat.le_of_ble_eq_true rfl) dX0_order_3 ⟨Nat.le_refl _, Nat.le_refl _⟩) hP (fun H locs hP => ?_)
  refine lv_if_ne (tgt := 11) hx hb dX0_order_6 (by decide) (fun c_3 => ?_) (fun c_3 => ?_)
  · have h := it_f h c_3
    refine lv_aload_n hx hb dX0_order_11 rfl (lv_at hl 0 rfl) ?_
    obtain ⟨r_5, e_4, h⟩ := bo_ex h
    refine r_calli (r_runV (rest := []) X hP 0 cp_c0 lk_0 (mt_X0_isEmpty l G σ e_4) (cwV 0 hts (lw_V q936 q938 qs22 q110 q939) rfl rfl rfl ⟨rfl, cdX0_isEmpty⟩ ⟨Nat.le_of_ble_eq_true rfl, Nat.le_of_ble_eq_true rfl⟩) rfl hl.1 rfl (Nat.le_of_ble_eq_true rfl) dX0_order_12 ⟨Nat.le_refl _, Nat.le_refl _⟩) hP (fun H locs hP => ?_)
    refine lv_if_ne (tgt := 26) hx hb dX0_order_15 (by decide) (fun c_6 => ?_) (fun c_6 => ?_)
    · have h := it_f h c_6
      refine lv_bipush (v := (-5 : Int32)) hx hb dX0_order_26 (by decide) ?_
      exact hret _ _ _ _ _ _ dX0_order_28 rfl (Option.some.inj h) hP
    · have h := it_t h c_6
      refine lv_aload_n hx hb dX0_order_18 rfl (lv_at hl 0 rfl) ?_
      refine r_geti X hP 0 cp_c0 lk_0 4 (Nat.le_of_ble_eq_true rfl) q289 cp_f4 dX0_order_19 ?_
      refine lv_iconst (v := (5 : Int32)) hx hb dX0_order_22 (by decide) ?_
      refine lv_icmp_le (tgt := 29) hx hb dX0_order_23 (by decide) (fun c_7 => ?_) (fun c_7 => ?_)
      · have h := it_t h c_7
        refine lv_aload_n hx hb dX0_order_29 rfl (lv_at hl 0 rfl) ?_
        refine lv_iconst (v := (-1 : Int32)) hx hb dX0_order_30 (by decide) ?_
        refine r_puti X cp_w hP 0 cp_c0 lk_0 26 (Nat.le_of_ble_eq_true rfl) q315 cp_f26 rfl (tyX0_ok 26 (by decide)) rfl rfl dX0_order_31 (fun σ_8 H locs e_9 hP => ?_)
        have h := st_k h e_9
        refine lv_aload_n hx hb dX0_order_34 rfl (lv_at hl 0 rfl) ?_
        refine lv_iconst (v := (0 : Int32)) hx hb dX0_order_35 (by decide) ?_
        refine lv_iconst (v := (0 : Int32)) hx hb dX0_order_36 (by decide) ?_
        refine lv_iconst (v := (0 : Int32)) hx hb dX0_order_37 (by decide) ?_
        obtain ⟨σ_11, e_10, h⟩ := bo_ex h
        refine r_callv (r_runV (rest := []) X hP 0 cp_c0 lk_0 (mt_tryOrders l G 7 σ_8 (0 : Int32) (0 : Int32) (0 : Int32) e_10) (cwV 3 hts (lw_V q1129 q1131 qs44 q110 q1132) rfl rfl rfl ⟨rfl, cdX0_tryOrders⟩ ⟨Nat.le_of_ble_eq_true rfl, Nat.le_of_ble_eq_true rfl⟩) rfl hl.1 rfl (Nat.le_of_ble_eq_true rfl) dX0_order_38 ⟨Nat.le_refl _, Nat.le_refl _⟩) hP (fun H locs hP => ?_)
        refine lv_aload_n hx hb dX0_order_41 rfl (lv_at hl 0 rfl) ?_
        refine lv_iload_n hx hb dX0_order_42 rfl (lv_at hl 1 rfl) ?_
        obtain ⟨r_13, e_12, h⟩ := bo_ex h
        refine r_calli (r_runV (rest := []) X hP 0 cp_c0 lk_0 (mt_X0_best l G σ_11 a1 e_12) (cwV 1 hts (lw_V q1121 q1123 qs43 q110 q1124) rfl rfl rfl ⟨rfl, cdX0_best⟩ ⟨Nat.le_of_ble_eq_true rfl, Nat.le_of_ble_eq_true rfl⟩) rfl hl.1 rfl (Nat.le_of_ble_eq_true rfl) dX0_order_43 ⟨Nat.le_refl _, Nat.le_refl _⟩) hP (fun H locs hP => ?_)
        exact hret _ _ _ _ _ _ dX0_order_46 rfl (Option.some.inj h) hP
      · have h := it_f h c_7
        refine lv_bipush (v := (-5 : Int32)) hx hb dX0_order_26 (by decide) ?_
        exact hret _ _ _ _ _ _ dX0_order_28 rfl (Option.some.inj h) hP
  · have h := it_t h c_3
    refine lv_iconst (v := (-1 : Int32)) hx hb dX0_order_9 (by decide) ?_
    exact hret _ _ _ _ _ _ dX0_order_10 rfl (Option.some.inj h) hP
def cp_times_B32 (l1 : Int32) (rc32 : Int32 → ST → Option (ST)) (w2 : Int32) (σ : ST) : Option (ST) :=
  (if (9 : Int32) < w2 then some (σ) else bo (mg_go 1 σ (gI σ 0 6) w2 (-1 : Int32)) (fun (σ_13 : ST) => bo (cp_look σ_13 w2) (fun (σ_15 : ST) => (rc32 (w2 + (1 : Int32)) σ_15))))
def cp_times (σ : ST) (a1 : Int32) : Option (Int32 × ST) :=
  bo (cp_in a1 (0 : Int32) (2 : Int32)) (fun (r_2 : Int32) => (if r_2 = 0 then some ((-1 : Int32), σ) else bo (cp_isEmpty σ) (fun (r_5 : Int32) => (if r_5 = 0 then bo (cp_asTheyCame σ) (fun (σ_8 : ST) => st_ (pI σ_8 0 26 (-1 : Int32)) (fun (σ_9 : ST) => bo (wl2 (cp_times_B32 a1) FU (1 : Int32) σ_9) (fun (σ_17 : ST) => bo (cp_best σ_17 a1) (fun (r_21 : Int32) => some (r_21, σ_17))))) else some ((-5 : Int32), σ)))))
abbrev rm_X0_times : Room := rmf 266 7942
set_option maxHeartbeats 4000000 in
set_option maxRecDepth 100000 in
theorem mt_X0_times (l : Launch) (G : GT) (σ : ST) (a1 : Int32) {r : Int32} {u : ST} (h : cp_times σ a1 = some (r, u)) : CI l cp_ft G yX0_times (ws_ yX0_times cX0_times 3 (some .int)) rm_X0_times 0 0 [.ref (G.2.2.1 0), .int a1] σ (r, u) := by
  refine m_enterI (by decide) rfl (lv := [(0, .ref (G.2.2.1 0)), (1, .int a1)]) rfl ?_
  intro p e s m args below meth c H locs ls Q X hret hP hl
  have hx := X.1.1
  have hb := X.1.2.1
  have hown := X.1.2.2.2.1
  have hts := X.1.2.2.2.2
  unfold cp_times at h
  refine lv_iload_n hx hb dX0_times_0 rfl (lv_at hl 1 rfl) ?_
  refine lv_iconst (v := (0 : Int32)) hx hb dX0_times_1 (by decide) ?_
  refine lv_iconst (v := (2 : Int32)) hx hb dX0_times_2 (by decide) ?_
  obtain ⟨r_2, e_1, h⟩ := bo_ex h
  refine r_calli (r_runS (rest := []) X hP (mt_X0_in l G σ a1 (0 : Int32) (2 : Int32) e_1) (va_cwS 3 hts (lw_S q396 q397 q110 q398) rfl rfl rfl cdX0_in ⟨Nat.le_of_ble_eq_true rfl, Nat.le_of_ble_eq_true rfl⟩) rfl hl.1 rfl (Nat.le_of_ble_eq_true rfl) dX0_times_3 ⟨Nat.le_refl _, Nat.le_refl _⟩) hP (fun H locs hP => ?_)
  refine lv_if_ne (tgt := 11) hx hb dX0_times_6 (by decide) (fun c_3 => ?_) (fun c_3 => ?_)
  · have h := it_f h c_3
    refine lv_aload_n hx hb dX0_times_11 rfl (lv_at hl 0 rfl) ?_
    obtain ⟨r_5, e_4, h⟩ := bo_ex h
    refine r_calli (r_runV (rest := []) X hP 0 cp_c0 lk_0 (mt_X0_isEmpty l G σ e_4) (cwV 0 hts (lw_V q936 q938 qs22 q110 q939) rfl rfl rfl ⟨rfl, cdX0_isEmpty⟩ ⟨Nat.le_of_ble_eq_true rfl, Nat.le_of_ble_eq_true rfl⟩) rfl hl.1 rfl (Nat.le_of_ble_eq_true rfl) dX0_times_12 ⟨Nat.le_refl _, Nat.le_refl _⟩) hP (fun H locs hP => ?_)
    refine lv_if_eq (tgt := 21) hx hb dX0_times_15 (by decide) (fun c_6 => ?_) (fun c_6 => ?_)
    · have h := it_t h c_6
      refine lv_aload_n hx hb dX0_times_21 rfl (lv_at hl 0 rfl) ?_
      obtain ⟨σ_8, e_7, h⟩ := bo_ex h
      refine r_callv (r_runV (rest := []) X hP 0 cp_c0 lk_0 (mt_X0_asTheyCame l G σ e_7) (cwV 0 hts (lw_V q932 q934 qs21 q110 q935) rfl rfl rfl ⟨rfl, cdX0_asTheyCame⟩ ⟨Nat.le_of_ble_eq_true rfl, Nat.le_of_ble_eq_true rfl⟩) rfl hl.1 rfl (Nat.le_of_ble_eq_true rfl) dX0_times_22 ⟨Nat.le_refl _, Nat.le_refl _⟩) hP (fun H locs hP => ?_)
      refine lv_aload_n hx hb dX0_times_25 rfl (lv_at hl 0 rfl) ?_
      refine lv_iconst (v := (-1 : Int32)) hx hb dX0_times_26 (by decide) ?_
      refine r_puti X cp_w hP 0 cp_c0 lk_0 26 (Nat.le_of_ble_eq_true rfl) q315 cp_f26 rfl (tyX0_ok 26 (by decide)) rfl rfl dX0_times_27 (fun σ_9 H locs e_10 hP => ?_)
      have h := st_k h e_10
      refine lv_iconst (v := (1 : Int32)) hx hb dX0_times_30 (by decide) ?_
      refine lv_istore_n (lv' := [(2, .int (1 : Int32)), (0, .ref (G.2.2.1 0)), (1, .int a1)]) hx hb dX0_times_31 rfl hl (by decide) rfl (fun ls hl => ?_)
      obtain ⟨σ_17, h_18, h⟩ := bo_ex h
      have hE_19 : ∀ (H : Heap) (locs : List Loc) (ls : Array Slot), PS cp_ft G s σ_17 H locs → lv_has ls 3 [(0, .ref (G.2.2.1 0)), (1, .int a1)] → W p l e rm_X0_times s m args below meth c H locs 0 0 Q (F0 m 66 ls []) := by
        intro H locs ls hP hl
        refine lv_aload_n hx hb dX0_times_66 rfl (lv_at hl 0 rfl) ?_
        refine lv_iload_n hx hb dX0_times_67 rfl (lv_at hl 1 rfl) ?_
        obtain ⟨r_21, e_20, h⟩ := bo_ex h
        refine r_calli (r_runV (rest := []) X hP 0 cp_c0 lk_0 (mt_X0_best l G σ_17 a1 e_20) (cwV 1 hts (lw_V q1121 q1123 qs43 q110 q1124) rfl rfl rfl ⟨rfl, cdX0_best⟩ ⟨Nat.le_of_ble_eq_true rfl, Nat.le_of_ble_eq_true rfl⟩) rfl hl.1 rfl (Nat.le_of_ble_eq_true rfl) dX0_times_68 ⟨Nat.le_refl _, Nat.le_refl _⟩) hP (fun H locs hP => ?_)
        exact hret _ _ _ _ _ _ dX0_times_71 rfl (Option.some.inj h) hP
      have hL_16 : ∀ (n : Nat) (w_22 : Int32) (σ_23 : ST) (H : Heap) (locs : List Loc) (ls : Array Slot), wl2 (cp_times_B32 a1) n w_22 σ_23 = some σ_17 → PS cp_ft G s σ_23 H locs → lv_has ls 3 [(0, .ref (G.2.2.1 0)), (1, .int a1), (2, .int w_22)] → W p l e rm_X0_times s m args below meth c H locs 0 0 Q (F0 m 32 ls []) := by
        intro n
        induction n with
        | zero => intro w_22 σ_23 H locs ls h_24; cases h_24
        | succ n ih =>
          intro w_22 σ_23 H locs ls h_24 hP hl
          have h_24 : cp_times_B32 a1 (wl2 (cp_times_B32 a1) n) w_22 σ_23 = some _ := h_24
          generalize wl2 (cp_times_B32 a1) n = rc_25 at h_24 ih
          unfold cp_times_B32 at h_24
          refine lv_iload_n hx hb dX0_times_32 rfl (lv_at hl 2 rfl) ?_
          refine lv_bipush (v := (9 : Int32)) hx hb dX0_times_33 (by decide) ?_
          refine lv_icmp_gt (tgt := 66) hx hb dX0_times_35 (by decide) (fun c_26 => ?_) (fun c_26 => ?_)
          · have h_24 := it_t h_24 c_26
            obtain rfl := Option.some.inj h_24
            exact hE_19 _ _ _ hP (lv_sub hl [0, 1] rfl)
          · have h_24 := it_f h_24 c_26
            refine lv_aload_n hx hb dX0_times_38 rfl (lv_at hl 0 rfl) ?_
            refine r_geta X hP 0 cp_c0 lk_0 18 (Nat.le_of_ble_eq_true rfl) q307 cp_f18 dX0_times_39 ?_
            refine lv_aload_n hx hb dX0_times_42 rfl (lv_at hl 0 rfl) ?_
            refine r_geta X hP 0 cp_c0 lk_0 16 (Nat.le_of_ble_eq_true rfl) q305 cp_f16 dX0_times_43 ?_
            refine lv_aload_n hx hb dX0_times_46 rfl (lv_at hl 0 rfl) ?_
            refine r_geti X hP 0 cp_c0 lk_0 6 (Nat.le_of_ble_eq_true rfl) q292 cp_f6 dX0_times_47 ?_
            refine lv_iload_n hx hb dX0_times_50 rfl (lv_at hl 2 rfl) ?_
            refine lv_iconst (v := (-1 : Int32)) hx hb dX0_times_51 (by decide) ?_
            obtain ⟨σ_28, e_27, h_24⟩ := bo_ex h_24
            refine r_callv (r_runV (rest := []) X hP (15 + 17 * 1) (mg_c 1 (by decide)) lk_2 (mt_X2_go l G 1 (by decide) σ_23 (gI σ_23 0 6) w_22 (-1 : Int32) e_27) (cwV 4 hts (lw_V q940 q941 q942 q112 q943) rfl rfl rfl ⟨rfl, cdX2_go⟩ ⟨Nat.le_of_ble_eq_true rfl, Nat.le_of_ble_eq_true rfl⟩) rfl hl.1 rfl (Nat.le_of_ble_eq_true rfl) dX0_times_52 ⟨Nat.le_refl _, Nat.le_refl _⟩) hP (fun H locs hP => ?_)
            refine lv_aload_n hx hb dX0_times_55 rfl (lv_at hl 0 rfl) ?_
            refine lv_iload_n hx hb dX0_times_56 rfl (lv_at hl 2 rfl) ?_
            obtain ⟨σ_30, e_29, h_24⟩ := bo_ex h_24
            refine r_callv (r_runV (rest := []) X hP 0 cp_c0 lk_0 (mt_X0_look l G σ_28 w_22 e_29) (cwV 1 hts (lw_V q1117 q1119 qs42 q110 q1120) rfl rfl rfl ⟨rfl, cdX0_look⟩ ⟨Nat.le_of_ble_eq_true rfl, Nat.le_of_ble_eq_true rfl⟩) rfl hl.1 rfl (Nat.le_of_ble_eq_true rfl) dX0_times_57 ⟨Nat.le_refl _, Nat.le_refl _⟩) hP (fun H locs hP => ?_)
            refine lv_iinc (v := (w_22 + (1 : Int32))) (lv' := [(2, .int (w_22 + (1 : Int32))), (0, .ref (G.2.2.1 0)), (1, .int a1)]) hx hb dX0_times_60 hl (k := 2) rfl rfl (by decide) rfl (fun ls hl => ?_)
            refine lv_goto (tgt := 32) hx hb dX0_times_63 (by decide) ?_
            exact ih _ _ _ _ _ h_24 hP (lv_sub hl [1, 2, 0] rfl)
      exact hL_16 _ _ _ _ _ _ h_18 hP (lv_sub hl [1, 2, 0] rfl)
    · have h := it_f h c_6
      refine lv_bipush (v := (-5 : Int32)) hx hb dX0_times_18 (by decide) ?_
      exact hret _ _ _ _ _ _ dX0_times_20 rfl (Option.some.inj h) hP
  · have h := it_t h c_3
    refine lv_iconst (v := (-1 : Int32)) hx hb dX0_times_9 (by decide) ?_
    exact hret _ _ _ _ _ _ dX0_times_10 rfl (Option.some.inj h) hP
def cp_wish_B24 (σ : ST) (l1 : Int32) (l2 : Int32) (rc24 : Int32 → Int32 → Option (Int32)) (w3 : Int32) (w4 : Int32) : Option (Int32) :=
  (if (gI σ 0 5) ≤ w4 then some (w3) else ck w4 20 (bo (pgi σ (lR σ 0 2 w4) 6 0) (fun (v_9 : Int32) => bo (if v_9 = l2 then ck w4 20 (bo (pis σ (lR σ 0 2 w4) 6) (fun (a_14 : Nat) => bo (cd_isOf σ a_14 l1) (fun (r_17 : Int32) => (if r_17 = 0 then some ((0 : Int32)) else some ((1 : Int32)))))) else some ((0 : Int32))) (fun (x_10 : Int32) => (rc24 (w3 + x_10) (w4 + (1 : Int32)))))))
def cp_wish (σ : ST) (a1 : Int32) (a2 : Int32) : Option (Int32 × ST) :=
  bo (cp_isPerson σ a1) (fun (r_2 : Int32) => (if r_2 = 0 then some ((-2000000000 : Int32), σ) else bo (cp_isThing σ a2) (fun (r_5 : Int32) => (if r_5 = 0 then some ((-2000000000 : Int32), σ) else bo (wl2 (cp_wish_B24 σ a1 a2) FU (0 : Int32) (0 : Int32)) (fun (o_20 : Int32) => bo2 (cp_wishOf σ a1 a2 o_20 (0 : Int32) (0 : Int32) (0 : Int32)) (fun (r_24 : Int32) (σ_25 : ST) => some (r_24, σ_25)))))))
abbrev rm_X0_wish : Room := rmf 263 7871
set_option maxHeartbeats 4000000 in
set_option maxRecDepth 100000 in
theorem mt_X0_wish (l : Launch) (G : GT) (σ : ST) (a1 : Int32) (a2 : Int32) {r : Int32} {u : ST} (h : cp_wish σ a1 a2 = some (r, u)) : CI l cp_ft G yX0_wish (ws_ yX0_wish cX0_wish 5 (some .int)) rm_X0_wish 0 0 [.ref (G.2.2.1 0), .int a1, .int a2] σ (r, u) := by
  refine m_enterI (by decide) rfl (lv := [(0, .ref (G.2.2.1 0)), (1, .int a1), (2, .int a2)]) rfl ?_
  intro p e s m args below meth c H locs ls Q X hret hP hl
  have hx := X.1.1
  have hb := X.1.2.1
  have hown := X.1.2.2.2.1
  have hts := X.1.2.2.2.2
  unfold cp_wish at h
  refine lv_aload_n hx hb dX0_wish_0 rfl (lv_at hl 0 rfl) ?_
  refine lv_iload_n hx hb dX0_wish_1 rfl (lv_at hl 1 rfl) ?_
  obtain ⟨r_2, e_1, h⟩ := bo_ex h
  refine r_calli (r_runV (rest := []) X hP 0 cp_c0 lk_0 (mt_X0_isPerson l G σ a1 e_1) (cwV 1 hts (lw_V q628 q630 qs5 q110 q631) rfl rfl rfl ⟨rfl, cdX0_isPerson⟩ ⟨Nat.le_of_ble_eq_true rfl, Nat.le_of_ble_eq_true rfl⟩) rfl hl.1 rfl (Nat.le_of_ble_eq_true rfl) dX0_wish_2 ⟨Nat.le_refl _, Nat.le_refl _⟩) hP (fun H locs hP => ?_)
  refine lv_if_eq (tgt := 16) hx hb dX0_wish_5 (by decide) (fun c_3 => ?_) (fun c_3 => ?_)
  · have h := it_t h c_3
    refine lv_ldc hx hb hown (hts _ q632) dX0_wish_16 ?_
    exact hret _ _ _ _ _ _ dX0_wish_18 rfl (Option.some.inj h) hP
  · have h := it_f h c_3
    refine lv_aload_n hx hb dX0_wish_8 rfl (lv_at hl 0 rfl) ?_
    refine lv_iload_n hx hb dX0_wish_9 rfl (lv_at hl 2 rfl) ?_
    obtain ⟨r_5, e_4, h⟩ := bo_ex h
    refine r_calli (r_runV (rest := []) X hP 0 cp_c0 lk_0 (mt_X0_isThing l G σ a2 e_4) (cwV 1 hts (lw_V q452 q454 qs1 q110 q455) rfl rfl rfl ⟨rfl, cdX0_isThing⟩ ⟨Nat.le_of_ble_eq_true rfl, Nat.le_of_ble_eq_true rfl⟩) rfl hl.1 rfl (Nat.le_of_ble_eq_true rfl) dX0_wish_10 ⟨Nat.le_refl _, Nat.le_refl _⟩) hP (fun H locs hP => ?_)
    refine lv_if_ne (tgt := 19) hx hb dX0_wish_13 (by decide) (fun c_6 => ?_) (fun c_6 => ?_)
    · have h := it_f h c_6
      refine lv_iconst (v := (0 : Int32)) hx hb dX0_wish_19 (by decide) ?_
      refine lv_istore_n (lv' := [(3, .int (0 : Int32)), (0, .ref (G.2.2.1 0)), (1, .int a1), (2, .int a2)]) hx hb dX0_wish_20 rfl hl (by decide) rfl (fun ls hl => ?_)
      refine lv_iconst (v := (0 : Int32)) hx hb dX0_wish_21 (by decide) ?_
      refine lv_istore (lv' := [(4, .int (0 : Int32)), (3, .int (0 : Int32)), (0, .ref (G.2.2.1 0)), (1, .int a1), (2, .int a2)]) hx hb dX0_wish_22 hl (by decide) rfl (fun ls hl => ?_)
      obtain ⟨o_20, h_21, h⟩ := bo_ex h
      have hE_22 : ∀ (H : Heap) (locs : List Loc) (ls : Array Slot), PS cp_ft G s σ H locs → lv_has ls 5 [(0, .ref (G.2.2.1 0)), (1, .int a1), (2, .int a2), (3, .int o_20)] → W p l e rm_X0_wish s m args below meth c H locs 0 0 Q (F0 m 75 ls []) := by
        intro H locs ls hP hl
        refine lv_aload_n hx hb dX0_wish_75 rfl (lv_at hl 0 rfl) ?_
        refine lv_iload_n hx hb dX0_wish_76 rfl (lv_at hl 1 rfl) ?_
        refine lv_iload_n hx hb dX0_wish_77 rfl (lv_at hl 2 rfl) ?_
        refine lv_iload_n hx hb dX0_wish_78 rfl (lv_at hl 3 rfl) ?_
        refine lv_iconst (v := (0 : Int32)) hx hb dX0_wish_79 (by decide) ?_
        refine lv_iconst (v := (0 : Int32)) hx hb dX0_wish_80 (by decide) ?_
        refine lv_iconst (v := (0 : Int32)) hx hb dX0_wish_81 (by decide) ?_
        obtain ⟨r_24, σ_25, e_23, h⟩ := bo2_ex h
        refine r_calli (r_runV (rest := []) X hP 0 cp_c0 lk_0 (mt_X0_wishOf l G σ a1 a2 o_20 (0 : Int32) (0 : Int32) (0 : Int32) e_23) (cwV 6 hts (lw_V q1159 q974 qs28 q110 q975) rfl rfl rfl ⟨rfl, cdX0_wishOf⟩ ⟨Nat.le_of_ble_eq_true rfl, Nat.le_of_ble_eq_true rfl⟩) rfl hl.1 rfl (Nat.le_of_ble_eq_true rfl) dX0_wish_82 ⟨Nat.le_refl _, Nat.le_refl _⟩) hP (fun H locs hP => ?_)
        exact hret _ _ _ _ _ _ dX0_wish_85 rfl (Option.some.inj h) hP
      have hL_19 : ∀ (n : Nat) (w_26 : Int32) (w_27 : Int32) (H : Heap) (locs : List Loc) (ls : Array Slot), wl2 (cp_wish_B24 σ a1 a2) n w_26 w_27 = some o_20 → PS cp_ft G s σ H locs → lv_has ls 5 [(0, .ref (G.2.2.1 0)), (1, .int a1), (2, .int a2), (3, .int w_26), (4, .int w_27)] → W p l e rm_X0_wish s m args below meth c H locs 0 0 Q (F0 m 24 ls []) := by
        intro n
        induction n with
        | zero => intro w_26 w_27 H locs ls h_28; cases h_28
        | succ n ih =>
          intro w_26 w_27 H locs ls h_28 hP hl
          have h_28 : cp_wish_B24 σ a1 a2 (wl2 (cp_wish_B24 σ a1 a2) n) w_26 w_27 = some _ := h_28
          generalize wl2 (cp_wish_B24 σ a1 a2) n = rc_29 at h_28 ih
          unfold cp_wish_B24 at h_28
          refine lv_iload hx hb dX0_wish_24 (lv_at hl 4 rfl) ?_
          refine lv_aload_n hx hb dX0_wish_26 rfl (lv_at hl 0 rfl) ?_
          refine r_geti X hP 0 cp_c0 lk_0 5 (Nat.le_of_ble_eq_true rfl) q291 cp_f5 dX0_wish_27 ?_
          refine lv_icmp_ge (tgt := 75) hx hb dX0_wish_30 (by decide) (fun c_30 => ?_) (fun c_30 => ?_)
          · have h_28 := it_t h_28 c_30
            obtain rfl := Option.some.inj h_28
            exact hE_22 _ _ _ hP (lv_sub hl [0, 1, 2, 3] rfl)
          · have h_28 := it_f h_28 c_30
            refine lv_iload_n hx hb dX0_wish_33 rfl (lv_at hl 3 rfl) ?_
            refine lv_aload_n hx hb dX0_wish_34 rfl (lv_at hl 0 rfl) ?_
            refine r_geta X hP 0 cp_c0 lk_0 2 (Nat.le_of_ble_eq_true rfl) q284 cp_f2 dX0_wish_35 ?_
            refine lv_iload hx hb dX0_wish_38 (lv_at hl 4 rfl) ?_
            refine r_aald (t := 2) X hP 3 cp_c3 rfl (ck_in h_28) dX0_wish_40 ?_
            have h_28 := ck_k h_28
            obtain ⟨v_32, e_31, h_28⟩ := bo_ex h_28
            refine r_pgiN (r := (lR σ 0 2 w_27)) X hP lk_6 0 (Nat.le_of_ble_eq_true rfl) e_31 q467 dX0_wish_41 ?_
            refine lv_iload_n hx hb dX0_wish_44 rfl (lv_at hl 2 rfl) ?_
            obtain ⟨x_33, h_34, h_28⟩ := bo_ex h_28
            have hJ_35 : ∀ (H : Heap) (locs : List Loc) (ls : Array Slot), PS cp_ft G s σ H locs → lv_has ls 5 [(0, .ref (G.2.2.1 0)), (1, .int a1), (2, .int a2), (4, .int w_27)] → W p l e rm_X0_wish s m args below meth c H locs 0 0 Q (F0 m 67 ls [.int x_33, .int w_26]) := by
              intro H locs ls hP hl
              refine lv_iadd hx hb dX0_wish_67 ?_
              refine lv_istore_n (lv' := [(3, .int (w_26 + x_33)), (0, .ref (G.2.2.1 0)), (1, .int a1), (2, .int a2), (4, .int w_27)]) hx hb dX0_wish_68 rfl hl (by decide) rfl (fun ls hl => ?_)
              refine lv_iinc (v := (w_27 + (1 : Int32))) (lv' := [(4, .int (w_27 + (1 : Int32))), (3, .int (w_26 + x_33)), (0, .ref (G.2.2.1 0)), (1, .int a1), (2, .int a2)]) hx hb dX0_wish_69 hl (k := 4) rfl rfl (by decide) rfl (fun ls hl => ?_)
              refine lv_goto (tgt := 24) hx hb dX0_wish_72 (by decide) ?_
              exact ih _ _ _ _ _ h_28 hP (lv_sub hl [2, 3, 4, 1, 0] rfl)
            refine lv_icmp_ne (tgt := 66) hx hb dX0_wish_45 (by decide) (fun c_36 => ?_) (fun c_36 => ?_)
            · have h_34 := it_f h_34 c_36
              refine lv_iconst (v := (0 : Int32)) hx hb dX0_wish_66 (by decide) ?_
              obtain rfl := Option.some.inj h_34
              exact hJ_35 _ _ _ hP (lv_sub hl [0, 1, 2, 4] rfl)
            · have h_34 := it_t h_34 c_36
              refine lv_aload_n hx hb dX0_wish_48 rfl (lv_at hl 0 rfl) ?_
              refine r_geta X hP 0 cp_c0 lk_0 2 (Nat.le_of_ble_eq_true rfl) q284 cp_f2 dX0_wish_49 ?_
              refine lv_iload hx hb dX0_wish_52 (lv_at hl 4 rfl) ?_
              refine r_aald (t := 2) X hP 3 cp_c3 rfl (ck_in h_34) dX0_wish_54 ?_
              have h_34 := ck_k h_34
              refine lv_iload_n hx hb dX0_wish_55 rfl (lv_at hl 1 rfl) ?_
              obtain ⟨a_37, e_38, h_34⟩ := bo_ex h_34
              rw [rr_known (pis_ex e_38).1]
              obtain ⟨r_40, e_39, h_34⟩ := bo_ex h_34
              refine r_calli (r_runP (rest := [.int w_26]) X hP (pis_ex e_38).2 lk_6 (mt_X6_isOf l G σ a_37 a1 e_39) (cwV 1 hts (lw_V q1158 q961 q962 q116 q963) rfl rfl rfl ⟨rfl, cdX6_isOf⟩ ⟨Nat.le_of_ble_eq_true rfl, Nat.le_of_ble_eq_true rfl⟩) rfl hl.1 rfl (Nat.le_of_ble_eq_true rfl) dX0_wish_56 ⟨Nat.le_refl _, Nat.le_refl _⟩) hP (fun H locs hP => ?_)
              refine lv_if_eq (tgt := 66) hx hb dX0_wish_59 (by decide) (fun c_41 => ?_) (fun c_41 => ?_)
              · have h_34 := it_t h_34 c_41
                refine lv_iconst (v := (0 : Int32)) hx hb dX0_wish_66 (by decide) ?_
                obtain rfl := Option.some.inj h_34
                exact hJ_35 _ _ _ hP (lv_sub hl [0, 1, 2, 4] rfl)
              · have h_34 := it_f h_34 c_41
                refine lv_iconst (v := (1 : Int32)) hx hb dX0_wish_62 (by decide) ?_
                refine lv_goto (tgt := 67) hx hb dX0_wish_63 (by decide) ?_
                obtain rfl := Option.some.inj h_34
                exact hJ_35 _ _ _ hP (lv_sub hl [0, 1, 2, 4] rfl)
      exact hL_19 _ _ _ _ _ _ h_21 hP (lv_sub hl [2, 3, 4, 1, 0] rfl)
    · have h := it_t h c_6
      refine lv_ldc hx hb hown (hts _ q632) dX0_wish_16 ?_
      exact hret _ _ _ _ _ _ dX0_wish_18 rfl (Option.some.inj h) hP
def cp_isBody (σ : ST) (a1 : Int32) : Option Int32 :=
  bo (cp_in a1 (0 : Int32) ((gI σ 0 32) - (1 : Int32))) (fun (r_2 : Int32) => bz r_2 (some r_2))
abbrev rm_X0_isBody : Room := rmf 1 22
set_option maxHeartbeats 4000000 in
set_option maxRecDepth 100000 in
theorem mt_X0_isBody (l : Launch) (G : GT) (σ : ST) (a1 : Int32) {r : Int32} (h : cp_isBody σ a1 = some r) : CI l cp_ft G yX0_isBody (ws_ yX0_isBody cX0_isBody 2 (some .boolean)) rm_X0_isBody 0 0 [.ref (G.2.2.1 0), .int a1] σ (r, σ) := by
  refine m_enterI (by decide) rfl (lv := [(0, .ref (G.2.2.1 0)), (1, .int a1)]) rfl ?_
  intro p e s m args below meth c H locs ls Q X hret hP hl
  have hx := X.1.1
  have hb := X.1.2.1
  have hown := X.1.2.2.2.1
  have hts := X.1.2.2.2.2
  unfold cp_isBody at h
  refine lv_iload_n hx hb dX0_isBody_0 rfl (lv_at hl 1 rfl) ?_
  refine lv_iconst (v := (0 : Int32)) hx hb dX0_isBody_1 (by decide) ?_
  refine lv_aload_n hx hb dX0_isBody_2 rfl (lv_at hl 0 rfl) ?_
  refine r_geti X hP 0 cp_c0 lk_0 32 (Nat.le_of_ble_eq_true rfl) q321 cp_f32 dX0_isBody_3 ?_
  refine lv_iconst (v := (1 : Int32)) hx hb dX0_isBody_6 (by decide) ?_
  refine lv_isub hx hb dX0_isBody_7 ?_
  obtain ⟨r_2, e_1, h⟩ := bo_ex h
  refine r_calli (r_runS (rest := []) X hP (mt_X0_in l G σ a1 (0 : Int32) ((gI σ 0 32) - (1 : Int32)) e_1) (va_cwS 3 hts (lw_S q396 q397 q110 q398) rfl rfl rfl cdX0_in ⟨Nat.le_of_ble_eq_true rfl, Nat.le_of_ble_eq_true rfl⟩) rfl hl.1 rfl (Nat.le_of_ble_eq_true rfl) dX0_isBody_8 ⟨Nat.le_refl _, Nat.le_refl _⟩) hP (fun H locs hP => ?_)
  exact hret _ _ _ _ _ _ dX0_isBody_11 (bz_or h) (congrArg (fun z9 => (z9, σ)) (Option.some.inj (bz_k h))) hP
def cp_ran (σ : ST) (a1 : Int32) : Option ST :=
  (if (24 : Int32) ≤ (gI σ 0 29) then st_ (pI σ 0 29 ((gI σ 0 29) + (1 : Int32))) (fun (σ_2 : ST) => some σ_2) else ck (gI σ 0 29) 24 (st_ (aI σ 0 30 (gI σ 0 29) ((((a1).toInt8.toInt32)).toInt8.toInt32)) (fun (σ_4 : ST) => st_ (pI σ_4 0 29 ((gI σ_4 0 29) + (1 : Int32))) (fun (σ_6 : ST) => some σ_6))))
abbrev rm_X0_ran : Room := rmf 0 0
set_option maxHeartbeats 4000000 in
set_option maxRecDepth 100000 in
theorem mt_X0_ran (l : Launch) (G : GT) (σ : ST) (a1 : Int32) {u : ST} (h : cp_ran σ a1 = some u) : CV l cp_ft G yX0_ran (ws_ yX0_ran cX0_ran 2 none) rm_X0_ran 0 0 [.ref (G.2.2.1 0), .int a1] σ u := by
  refine m_enterV (by decide) rfl (lv := [(0, .ref (G.2.2.1 0)), (1, .int a1)]) rfl ?_
  intro p e s m args below meth c H locs ls Q X hnm hret hP hl
  have hx := X.1.1
  have hb := X.1.2.1
  have hown := X.1.2.2.2.1
  have hts := X.1.2.2.2.2
  unfold cp_ran at h
  refine lv_aload_n hx hb dX0_ran_0 rfl (lv_at hl 0 rfl) ?_
  refine r_geti X hP 0 cp_c0 lk_0 29 (Nat.le_of_ble_eq_true rfl) q318 cp_f29 dX0_ran_1 ?_
  refine lv_bipush (v := (24 : Int32)) hx hb dX0_ran_4 (by decide) ?_
  refine lv_icmp_ge (tgt := 20) hx hb dX0_ran_6 (by decide) (fun c_1 => ?_) (fun c_1 => ?_)
  · have h := it_t h c_1
    refine lv_aload_n hx hb dX0_ran_20 rfl (lv_at hl 0 rfl) ?_
    refine lv_dup hx hb dX0_ran_21 rfl ?_
    refine r_geti X hP 0 cp_c0 lk_0 29 (Nat.le_of_ble_eq_true rfl) q318 cp_f29 dX0_ran_22 ?_
    refine lv_iconst (v := (1 : Int32)) hx hb dX0_ran_25 (by decide) ?_
    refine lv_iadd hx hb dX0_ran_26 ?_
    refine r_puti X cp_w hP 0 cp_c0 lk_0 29 (Nat.le_of_ble_eq_true rfl) q318 cp_f29 rfl (tyX0_ok 29 (by decide)) rfl rfl dX0_ran_27 (fun σ_2 H locs e_3 hP => ?_)
    have h := st_k h e_3
    exact hret _ _ _ _ _ dX0_ran_30 (Option.some.inj h) hP
  · have h := it_f h c_1
    refine lv_aload_n hx hb dX0_ran_9 rfl (lv_at hl 0 rfl) ?_
    refine r_geta X hP 0 cp_c0 lk_0 30 (Nat.le_of_ble_eq_true rfl) q319 cp_f30 dX0_ran_10 ?_
    refine lv_aload_n hx hb dX0_ran_13 rfl (lv_at hl 0 rfl) ?_
    refine r_geti X hP 0 cp_c0 lk_0 29 (Nat.le_of_ble_eq_true rfl) q318 cp_f29 dX0_ran_14 ?_
    refine lv_iload_n hx hb dX0_ran_17 rfl (lv_at hl 1 rfl) ?_
    refine lv_i2b hx hb dX0_ran_18 rfl ?_
    refine r_bast X cp_w hP 10 cp_c10 (ck_in h) dX0_ran_19 (fun σ_4 H locs e_5 hP => ?_)
    have h := st_k (ck_k h) e_5
    refine lv_aload_n hx hb dX0_ran_20 rfl (lv_at hl 0 rfl) ?_
    refine lv_dup hx hb dX0_ran_21 rfl ?_
    refine r_geti X hP 0 cp_c0 lk_0 29 (Nat.le_of_ble_eq_true rfl) q318 cp_f29 dX0_ran_22 ?_
    refine lv_iconst (v := (1 : Int32)) hx hb dX0_ran_25 (by decide) ?_
    refine lv_iadd hx hb dX0_ran_26 ?_
    refine r_puti X cp_w hP 0 cp_c0 lk_0 29 (Nat.le_of_ble_eq_true rfl) q318 cp_f29 rfl (tyX0_ok 29 (by decide)) rfl rfl dX0_ran_27 (fun σ_6 H locs e_7 hP => ?_)
    have h := st_k h e_7
    exact hret _ _ _ _ _ dX0_ran_30 (Option.some.inj h) hP
def cp_trace (σ : ST) (a1 : Int32) : Option Int32 :=
  (if a1 < 0 then some (-1 : Int32) else (if (gI σ 0 29) ≤ a1 then some (-1 : Int32) else (if (24 : Int32) ≤ a1 then some (-1 : Int32) else ck a1 24 (some (lI σ 0 30 a1)))))
abbrev rm_X0_trace : Room := rmf 0 0
set_option maxHeartbeats 4000000 in
set_option maxRecDepth 100000 in
theorem mt_X0_trace (l : Launch) (G : GT) (σ : ST) (a1 : Int32) {r : Int32} (h : cp_trace σ a1 = some r) : CI l cp_ft G yX0_trace (ws_ yX0_trace cX0_trace 2 (some .int)) rm_X0_trace 0 0 [.ref (G.2.2.1 0), .int a1] σ (r, σ) := by
  refine m_enterI (by decide) rfl (lv := [(0, .ref (G.2.2.1 0)), (1, .int a1)]) rfl ?_
  intro p e s m args below meth c H locs ls Q X hret hP hl
  have hx := X.1.1
  have hb := X.1.2.1
  have hown := X.1.2.2.2.1
  have hts := X.1.2.2.2.2
  unfold cp_trace at h
  refine lv_iload_n hx hb dX0_trace_0 rfl (lv_at hl 1 rfl) ?_
  refine lv_if_lt (tgt := 27) hx hb dX0_trace_1 (by decide) (fun c_1 => ?_) (fun c_1 => ?_)
  · have h := it_t h c_1
    refine lv_iconst (v := (-1 : Int32)) hx hb dX0_trace_27 (by decide) ?_
    exact hret _ _ _ _ _ _ dX0_trace_28 rfl (congrArg (fun z9 => (z9, σ)) (Option.some.inj h)) hP
  · have h := it_f h c_1
    refine lv_iload_n hx hb dX0_trace_4 rfl (lv_at hl 1 rfl) ?_
    refine lv_aload_n hx hb dX0_trace_5 rfl (lv_at hl 0 rfl) ?_
    refine r_geti X hP 0 cp_c0 lk_0 29 (Nat.le_of_ble_eq_true rfl) q318 cp_f29 dX0_trace_6 ?_
    refine lv_icmp_ge (tgt := 27) hx hb dX0_trace_9 (by decide) (fun c_2 => ?_) (fun c_2 => ?_)
    · have h := it_t h c_2
      refine lv_iconst (v := (-1 : Int32)) hx hb dX0_trace_27 (by decide) ?_
      exact hret _ _ _ _ _ _ dX0_trace_28 rfl (congrArg (fun z9 => (z9, σ)) (Option.some.inj h)) hP
    · have h := it_f h c_2
      refine lv_iload_n hx hb dX0_trace_12 rfl (lv_at hl 1 rfl) ?_
      refine lv_bipush (v := (24 : Int32)) hx hb dX0_trace_13 (by decide) ?_
      refine lv_icmp_ge (tgt := 27) hx hb dX0_trace_15 (by decide) (fun c_3 => ?_) (fun c_3 => ?_)
      · have h := it_t h c_3
        refine lv_iconst (v := (-1 : Int32)) hx hb dX0_trace_27 (by decide) ?_
        exact hret _ _ _ _ _ _ dX0_trace_28 rfl (congrArg (fun z9 => (z9, σ)) (Option.some.inj h)) hP
      · have h := it_f h c_3
        refine lv_aload_n hx hb dX0_trace_18 rfl (lv_at hl 0 rfl) ?_
        refine r_geta X hP 0 cp_c0 lk_0 30 (Nat.le_of_ble_eq_true rfl) q319 cp_f30 dX0_trace_19 ?_
        refine lv_iload_n hx hb dX0_trace_22 rfl (lv_at hl 1 rfl) ?_
        refine r_bald X hP 10 cp_c10 (ck_in h) dX0_trace_23 ?_
        have h := ck_k h
        refine lv_goto (tgt := 28) hx hb dX0_trace_24 (by decide) ?_
        exact hret _ _ _ _ _ _ dX0_trace_28 rfl (congrArg (fun z9 => (z9, σ)) (Option.some.inj h)) hP
def cp_count (σ : ST) (a1 : Int32) : Option Int32 :=
  (if a1 = (0 : Int32) then some (gI σ 0 3) else (if a1 = (1 : Int32) then some (gI σ 0 4) else (if a1 = (2 : Int32) then some (gI σ 0 5) else (if a1 = (3 : Int32) then some (gI σ 0 13) else (if a1 = (4 : Int32) then some (gI σ 0 10) else (if a1 = (5 : Int32) then some (gI σ 0 32) else (if a1 = (6 : Int32) then some (gI σ 0 29) else some (-1 : Int32))))))))
abbrev rm_X0_count : Room := rmf 0 0
set_option maxHeartbeats 4000000 in
set_option maxRecDepth 100000 in
theorem mt_X0_count (l : Launch) (G : GT) (σ : ST) (a1 : Int32) {r : Int32} (h : cp_count σ a1 = some r) : CI l cp_ft G yX0_count (ws_ yX0_count cX0_count 2 (some .int)) rm_X0_count 0 0 [.ref (G.2.2.1 0), .int a1] σ (r, σ) := by
  refine m_enterI (by decide) rfl (lv := [(0, .ref (G.2.2.1 0)), (1, .int a1)]) rfl ?_
  intro p e s m args below meth c H locs ls Q X hret hP hl
  have hx := X.1.1
  have hb := X.1.2.1
  have hown := X.1.2.2.2.1
  have hts := X.1.2.2.2.2
  unfold cp_count at h
  refine lv_iload_n hx hb dX0_count_0 rfl (lv_at hl 1 rfl) ?_
  by_cases c_1 : a1 = (0 : Int32)
  · have h := it_t h c_1
    refine lv_tableIn (tgt := 44) hx hb dX0_count_1 (by rw [c_1]; decide) (by rw [c_1]; decide) (by rw [c_1]; rfl) (by decide) ?_
    refine lv_aload_n hx hb dX0_count_44 rfl (lv_at hl 0 rfl) ?_
    refine r_geti X hP 0 cp_c0 lk_0 3 (Nat.le_of_ble_eq_true rfl) q286 cp_f3 dX0_count_45 ?_
    exact hret _ _ _ _ _ _ dX0_count_48 rfl (congrArg (fun z9 => (z9, σ)) (Option.some.inj h)) hP
  · have h := it_f h c_1
    by_cases c_2 : a1 = (1 : Int32)
    · have h := it_t h c_2
      refine lv_tableIn (tgt := 49) hx hb dX0_count_1 (by rw [c_2]; decide) (by rw [c_2]; decide) (by rw [c_2]; rfl) (by decide) ?_
      refine lv_aload_n hx hb dX0_count_49 rfl (lv_at hl 0 rfl) ?_
      refine r_geti X hP 0 cp_c0 lk_0 4 (Nat.le_of_ble_eq_true rfl) q289 cp_f4 dX0_count_50 ?_
      exact hret _ _ _ _ _ _ dX0_count_53 rfl (congrArg (fun z9 => (z9, σ)) (Option.some.inj h)) hP
    · have h := it_f h c_2
      by_cases c_3 : a1 = (2 : Int32)
      · have h := it_t h c_3
        refine lv_tableIn (tgt := 54) hx hb dX0_count_1 (by rw [c_3]; decide) (by rw [c_3]; decide) (by rw [c_3]; rfl) (by decide) ?_
        refine lv_aload_n hx hb dX0_count_54 rfl (lv_at hl 0 rfl) ?_
        refine r_geti X hP 0 cp_c0 lk_0 5 (Nat.le_of_ble_eq_true rfl) q291 cp_f5 dX0_count_55 ?_
        exact hret _ _ _ _ _ _ dX0_count_58 rfl (congrArg (fun z9 => (z9, σ)) (Option.some.inj h)) hP
      · have h := it_f h c_3
        by_cases c_4 : a1 = (3 : Int32)
        · have h := it_t h c_4
          refine lv_tableIn (tgt := 59) hx hb dX0_count_1 (by rw [c_4]; decide) (by rw [c_4]; decide) (by rw [c_4]; rfl) (by decide) ?_
          refine lv_aload_n hx hb dX0_count_59 rfl (lv_at hl 0 rfl) ?_
          refine r_geti X hP 0 cp_c0 lk_0 13 (Nat.le_of_ble_eq_true rfl) q302 cp_f13 dX0_count_60 ?_
          exact hret _ _ _ _ _ _ dX0_count_63 rfl (congrArg (fun z9 => (z9, σ)) (Option.some.inj h)) hP
        · have h := it_f h c_4
          by_cases c_5 : a1 = (4 : Int32)
          · have h := it_t h c_5
            refine lv_tableIn (tgt := 64) hx hb dX0_count_1 (by rw [c_5]; decide) (by rw [c_5]; decide) (by rw [c_5]; rfl) (by decide) ?_
            refine lv_aload_n hx hb dX0_count_64 rfl (lv_at hl 0 rfl) ?_
            refine r_geti X hP 0 cp_c0 lk_0 10 (Nat.le_of_ble_eq_true rfl) q297 cp_f10 dX0_count_65 ?_
            exact hret _ _ _ _ _ _ dX0_count_68 rfl (congrArg (fun z9 => (z9, σ)) (Option.some.inj h)) hP
          · have h := it_f h c_5
            by_cases c_6 : a1 = (5 : Int32)
            · have h := it_t h c_6
              refine lv_tableIn (tgt := 69) hx hb dX0_count_1 (by rw [c_6]; decide) (by rw [c_6]; decide) (by rw [c_6]; rfl) (by decide) ?_
              refine lv_aload_n hx hb dX0_count_69 rfl (lv_at hl 0 rfl) ?_
              refine r_geti X hP 0 cp_c0 lk_0 32 (Nat.le_of_ble_eq_true rfl) q321 cp_f32 dX0_count_70 ?_
              exact hret _ _ _ _ _ _ dX0_count_73 rfl (congrArg (fun z9 => (z9, σ)) (Option.some.inj h)) hP
            · have h := it_f h c_6
              by_cases c_7 : a1 = (6 : Int32)
              · have h := it_t h c_7
                refine lv_tableIn (tgt := 74) hx hb dX0_count_1 (by rw [c_7]; decide) (by rw [c_7]; decide) (by rw [c_7]; rfl) (by decide) ?_
                refine lv_aload_n hx hb dX0_count_74 rfl (lv_at hl 0 rfl) ?_
                refine r_geti X hP 0 cp_c0 lk_0 29 (Nat.le_of_ble_eq_true rfl) q318 cp_f29 dX0_count_75 ?_
                exact hret _ _ _ _ _ _ dX0_count_78 rfl (congrArg (fun z9 => (z9, σ)) (Option.some.inj h)) hP
              · have h := it_f h c_7
                refine lv_tableOut (tgt := 79) hx hb dX0_count_1 (by have n0 := lv_neT c_1 (a := 0) (by decide); have n1 := lv_neT c_2 (a := 1) (by decide); have n2 := lv_neT c_3 (a := 2) (by decide); have n3 := lv_neT c_4 (a := 3) (by decide); have n4 := lv_neT c_5 (a := 4) (by decide); have n5 := lv_neT c_6 (a := 5) (by decide); have n6 := lv_neT c_7 (a := 6) (by decide); omega) (by decide) ?_
                refine lv_iconst (v := (-1 : Int32)) hx hb dX0_count_79 (by decide) ?_
                exact hret _ _ _ _ _ _ dX0_count_80 rfl (congrArg (fun z9 => (z9, σ)) (Option.some.inj h)) hP
