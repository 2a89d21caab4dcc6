set_option maxRecDepth 100000
def cp_row (ks : Nat → ClassId) (σ : ST) (a1 : Int32) (a2 : Int32) (a3 : Int32) : Option (Int32 × ST) :=
  bo (cp_isShelf a1) (fun (r_2 : Int32) => (if r_2 = 0 then some ((-1 : Int32), σ) else bo (cp_in a2 (0 : Int32) (4 : Int32)) (fun (r_5 : Int32) => (if r_5 = 0 then some ((-1 : Int32), σ) else (if a3 ≤ (60 : Int32) then oex (cp_newRow_T ks σ a2 a3) (some ((-14 : Int32), σ)) (bo2 (cp_newRow ks σ a2 a3) (fun (r_10 : Option Nat) (σ_11 : ST) => ck a1 6 (bo (asl σ_11 0 33 a1 r_10 [15, 16, 17, 18, 19, 20, 21, 22, 23, 24, 25, 26, 27]) (fun (σ_12 : ST) => some ((1 : Int32), σ_12))))) else some ((-1 : Int32), σ))))))
abbrev rm_X0_row : Room := rmc 13 10421 4 1220
set_option maxHeartbeats 4000000 in
set_option maxRecDepth 100000 in
theorem mt_X0_row (l : Launch) (G : GT) (hal : G.2.2.2.2 = true) (hlt : l.stackTraces = false) (σ : ST) (a1 : Int32) (a2 : Int32) (a3 : Int32) {r : Int32} {u : ST} (h : cp_row G.2.1 σ a1 a2 a3 = some (r, u)) : XI l cp_ft G yX0_row (wsW_ yX0_row cX0_row 5 (some .int) [(24, 35, 38, 458)]) rm_X0_row 4 1220 [.ref (G.2.2.1 0), .int a1, .int a2, .int a3] σ (r, u) := by
  refine m_enterWI (by decide) rfl (lv := [(0, .ref (G.2.2.1 0)), (1, .int a1), (2, .int a2), (3, .int a3)]) rfl ?_
  intro p e s m args below meth c H locs ls Q X htab hret hP hl
  have hx := X.1.1
  have hb := X.1.2.1
  have hown := X.1.2.2.2.1
  have hts := X.1.2.2.2.2
  unfold cp_row at h
  refine lv_iload_n hx hb dX0_row_0 rfl (lv_at hl 1 rfl) ?_
  obtain ⟨r_2, e_1, h⟩ := bo_ex h
  refine r_calli (r_runS (rest := []) X hP (mt_X0_isShelf l G σ a1 e_1) (va_cwS 1 hts (lw_S q612 q613 q110 q614) rfl rfl rfl cdX0_isShelf ⟨Nat.le_of_ble_eq_true rfl, Nat.le_of_ble_eq_true rfl⟩) rfl hl.1 rfl (Nat.le_of_ble_eq_true rfl) dX0_row_1 ⟨Nat.le_of_ble_eq_true rfl, Nat.le_of_ble_eq_true rfl⟩) hP (fun H locs hP => ?_)
  refine lv_if_eq (tgt := 22) hx hb dX0_row_4 (by decide) (fun c_3 => ?_) (fun c_3 => ?_)
  · have h := it_t h c_3
    refine lv_iconst (v := (-1 : Int32)) hx hb dX0_row_22 (by decide) ?_
    refine W.widen (k := 4) (n := 1220) (Nat.le_of_ble_eq_true rfl) (Nat.le_of_ble_eq_true rfl) ?_
    exact hret _ _ _ _ _ _ dX0_row_23 (xr_v h) (xr_s h) hP
  · have h := it_f h c_3
    refine lv_iload_n hx hb dX0_row_7 rfl (lv_at hl 2 rfl) ?_
    refine lv_iconst (v := (0 : Int32)) hx hb dX0_row_8 (by decide) ?_
    refine lv_iconst (v := (4 : Int32)) hx hb dX0_row_9 (by decide) ?_
    obtain ⟨r_5, e_4, h⟩ := bo_ex h
    refine r_calli (r_runS (rest := []) X hP (mt_X0_in l G σ a2 (0 : Int32) (4 : Int32) e_4) (va_cwS 3 hts (lw_S q396 q397 q110 q398) rfl rfl rfl cdX0_in ⟨Nat.le_of_ble_eq_true rfl, Nat.le_of_ble_eq_true rfl⟩) rfl hl.1 rfl (Nat.le_of_ble_eq_true rfl) dX0_row_10 ⟨Nat.le_of_ble_eq_true rfl, Nat.le_of_ble_eq_true rfl⟩) hP (fun H locs hP => ?_)
    refine lv_if_eq (tgt := 22) hx hb dX0_row_13 (by decide) (fun c_6 => ?_) (fun c_6 => ?_)
    · have h := it_t h c_6
      refine lv_iconst (v := (-1 : Int32)) hx hb dX0_row_22 (by decide) ?_
      refine W.widen (k := 4) (n := 1220) (Nat.le_of_ble_eq_true rfl) (Nat.le_of_ble_eq_true rfl) ?_
      exact hret _ _ _ _ _ _ dX0_row_23 (xr_v h) (xr_s h) hP
    · have h := it_f h c_6
      refine lv_iload_n hx hb dX0_row_16 rfl (lv_at hl 3 rfl) ?_
      refine lv_bipush (v := (60 : Int32)) hx hb dX0_row_17 (by decide) ?_
      refine lv_icmp_le (tgt := 24) hx hb dX0_row_19 (by decide) (fun c_7 => ?_) (fun c_7 => ?_)
      · have h := it_t h c_7
        refine lv_aload_n hx hb dX0_row_24 rfl (lv_at hl 0 rfl) ?_
        refine r_geta X hP 0 cp_c0 lk_0 33 (Nat.le_of_ble_eq_true rfl) q322 cp_f33 dX0_row_25 ?_
        refine lv_iload_n hx hb dX0_row_28 rfl (lv_at hl 1 rfl) ?_
        refine lv_iload_n hx hb dX0_row_29 rfl (lv_at hl 2 rfl) ?_
        refine lv_iload_n hx hb dX0_row_30 rfl (lv_at hl 3 rfl) ?_
        rcases oex_el h with ⟨e_8, h⟩ | h
        · refine r_callTS (rest := [.int a1, .ref (G.2.2.1 12)]) X hP (mt_X0_newRow_T l G hal hlt σ a2 a3 e_8) (va_cwS 2 hts (lw_S q1443 q1444 q110 q1445) rfl rfl rfl cdX0_newRow ⟨(Nat.le_of_ble_eq_true rfl), (Nat.le_of_ble_eq_true rfl)⟩) rfl hl.1 rfl (Nat.le_of_ble_eq_true rfl) dX0_row_31 ⟨(Nat.le_of_ble_eq_true rfl), (Nat.le_of_ble_eq_true rfl)⟩ (fun o1 st t H locs hst ht hW1 hq hL => ?_)
          obtain ⟨ce, hP, hce, hv, hf⟩ := hq.ps hst ht hW1 hP hL
          refine r_catch (h := 38) hce hv hf (fun mag => by rw [htab]; exact hf_hit X mag q1429 (by decide) (by decide) hf (X.2.2.1 _ q1441 rfl)) ?_
          refine lv_astore (lv' := [(4, .ref o1), (0, .ref (G.2.2.1 0)), (1, .int a1), (2, .int a2), (3, .int a3)]) hx hb dX0_row_38 hl (by decide) rfl (fun ls hl => ?_)
          refine lv_bipush (v := (-14 : Int32)) hx hb dX0_row_40 (by decide) ?_
          refine W.widen (k := 4) (n := 1220) (Nat.le_of_ble_eq_true rfl) (Nat.le_of_ble_eq_true rfl) ?_
          exact hret _ _ _ _ _ _ dX0_row_42 (xr_v h) (xr_g _ h) hP
        · have hdone := trivial
          obtain ⟨r_10, σ_11, e_9, h⟩ := bo2_ex h
          refine r_callrM (r_runS (rest := [.int a1, .ref (G.2.2.1 12)]) X hP (mt_X0_newRow l G hal σ a2 a3 e_9) (va_cwS 2 hts (lw_S q1443 q1444 q110 q1445) rfl rfl rfl cdX0_newRow ⟨Nat.le_of_ble_eq_true rfl, Nat.le_of_ble_eq_true rfl⟩) rfl hl.1 rfl (Nat.le_of_ble_eq_true rfl) dX0_row_31 ⟨Nat.le_of_ble_eq_true rfl, Nat.le_of_ble_eq_true rfl⟩) hP (fun H locs hP => ?_)
          have h_14 := ck_in h
          have h := ck_k h
          obtain ⟨σ_12, e_13, h⟩ := bo_ex h
          refine r_aastL (t := 5) (v := r_10) X cp_w hP 12 cp_c12 shelves_ok rfl e_13 h_14 dX0_row_34 (fun H locs hP => ?_)
          refine lv_goto (tgt := 43) hx hb dX0_row_35 (by decide) ?_
          refine lv_iconst (v := (1 : Int32)) hx hb dX0_row_43 (by decide) ?_
          refine W.widen (k := 4) (n := 1220) (Nat.le_of_ble_eq_true rfl) (Nat.le_of_ble_eq_true rfl) ?_
          exact hret _ _ _ _ _ _ dX0_row_44 (xr_v h) (xr_s h) hP
      · have h := it_f h c_7
        refine lv_iconst (v := (-1 : Int32)) hx hb dX0_row_22 (by decide) ?_
        refine W.widen (k := 4) (n := 1220) (Nat.le_of_ble_eq_true rfl) (Nat.le_of_ble_eq_true rfl) ?_
        exact hret _ _ _ _ _ _ dX0_row_23 (xr_v h) (xr_s h) hP
def cp_put (ks : Nat → ClassId) (σ : ST) (a1 : Int32) (a2 : Int32) (a3 : Int64) : Option (Int32 × ST) :=
  bo (cp_isShelf a1) (fun (r_2 : Int32) => (if r_2 = 0 then some ((-1 : Int32), σ) else ck a1 6 ((ccx σ (lR σ 0 33 a1) [15, 16, 17, 18, 19] [20, 21, 22, 23, 24, 25, 26, 27] (nlx (lR σ 0 33 a1) (some ((-11 : Int32), σ)) (fun (a_5 : Nat) => oex (rv_put_T ks σ (some a_5) a2 a3) (some ((-13 : Int32), σ)) (bo2 (rv_put ks σ (some a_5) a2 a3) (fun (r_9 : Int32) (σ_10 : ST) => (if r_9 = 0 then some ((-1 : Int32), σ_10) else some ((1 : Int32), σ_10)))))) (some ((-12 : Int32), σ))))))
abbrev rm_X0_put : Room := rmc 10 10325 3 1210
set_option maxHeartbeats 4000000 in
set_option maxRecDepth 100000 in
theorem mt_X0_put (l : Launch) (G : GT) (hal : G.2.2.2.2 = true) (hlt : l.stackTraces = false) (σ : ST) (a1 : Int32) (a2 : Int32) (a3 : Int64) {r : Int32} {u : ST} (h : cp_put G.2.1 σ a1 a2 a3 = some (r, u)) : XI l cp_ft G yX0_put (wsW_ yX0_put cX0_put 6 (some .int) [(9, 31, 32, 132), (9, 31, 37, 130), (9, 31, 42, 134)]) rm_X0_put 3 1210 [.ref (G.2.2.1 0), .int a1, .int a2, .long a3] σ (r, u) := by
  refine m_enterWI (by decide) rfl (lv := [(0, .ref (G.2.2.1 0)), (1, .int a1), (2, .int a2), (3, .long a3)]) rfl ?_
  intro p e s m args below meth c H locs ls Q X htab hret hP hl
  have hx := X.1.1
  have hb := X.1.2.1
  have hown := X.1.2.2.2.1
  have hts := X.1.2.2.2.2
  unfold cp_put at h
  refine lv_iload_n hx hb dX0_put_0 rfl (lv_at hl 1 rfl) ?_
  obtain ⟨r_2, e_1, h⟩ := bo_ex h
  refine r_calli (r_runS (rest := []) X hP (mt_X0_isShelf l G σ a1 e_1) (va_cwS 1 hts (lw_S q612 q613 q110 q614) rfl rfl rfl cdX0_isShelf ⟨Nat.le_of_ble_eq_true rfl, Nat.le_of_ble_eq_true rfl⟩) rfl hl.1 rfl (Nat.le_of_ble_eq_true rfl) dX0_put_1 ⟨Nat.le_of_ble_eq_true rfl, Nat.le_of_ble_eq_true rfl⟩) hP (fun H locs hP => ?_)
  refine lv_if_ne (tgt := 9) hx hb dX0_put_4 (by decide) (fun c_3 => ?_) (fun c_3 => ?_)
  · have h := it_f h c_3
    refine lv_aload_n hx hb dX0_put_9 rfl (lv_at hl 0 rfl) ?_
    refine r_geta X hP 0 cp_c0 lk_0 33 (Nat.le_of_ble_eq_true rfl) q322 cp_f33 dX0_put_10 ?_
    refine lv_iload_n hx hb dX0_put_13 rfl (lv_at hl 1 rfl) ?_
    refine r_aald (t := 5) X hP 12 cp_c12 rfl (ck_in h) dX0_put_14 ?_
    have h := ck_k h
    refine r_ccx (rest := []) X hal hlt hP h q1504 hcs_Row hbd_Row cc_Row hl.1 (Nat.le_of_ble_eq_true rfl) (Nat.le_of_ble_eq_true rfl) (Nat.le_of_ble_eq_true rfl) (Nat.le_of_ble_eq_true rfl) (Nat.le_of_ble_eq_true rfl) dX0_put_15 (fun h => ?_) (fun H locs n1 o1 ce h hn1 hP hce hf hv => ?_)
    · refine lv_iload_n hx hb dX0_put_18 rfl (lv_at hl 2 rfl) ?_
      refine lv_lload_n hx hb dX0_put_19 rfl (lv_at hl 3 rfl) ?_
      rcases nlx_el h with ⟨hn_4, h⟩ | ⟨a_5, ha_6, h⟩
      · rw [hn_4]
        refine r_nullV (As := [.int a2, .long a3]) (rest := []) X q1505 q1507 (X.2.2.1 _ q1506 rfl) cdR_put rfl rfl dX0_put_20 ?_
        refine r_npe X hal hlt hP hl.1 (Nat.le_of_ble_eq_true rfl) (Nat.le_of_ble_eq_true rfl) (Nat.le_of_ble_eq_true rfl) (Nat.le_of_ble_eq_true rfl) (Nat.le_of_ble_eq_true rfl) (fun H locs o1 ce hP hce hf hv => ?_)
        refine r_catch (h := 32) hce hv hf (fun mag => by rw [htab]; exact hf_hit X mag q568 (by decide) (by decide) hf (X.2.2.1 _ q590 rfl)) ?_
        refine lv_astore (lv' := [(5, .ref o1), (0, .ref (G.2.2.1 0)), (1, .int a1), (2, .int a2), (3, .long a3)]) hx hb dX0_put_32 hl (by decide) rfl (fun ls hl => ?_)
        refine lv_bipush (v := (-11 : Int32)) hx hb dX0_put_34 (by decide) ?_
        refine W.widen (k := 3) (n := 1210) (Nat.le_of_ble_eq_true rfl) (Nat.le_of_ble_eq_true rfl) ?_
        exact hret _ _ _ _ _ _ dX0_put_36 (xr_v h) (xr_g _ h) hP
      · rw [ha_6]
        rcases oex_el h with ⟨e_7, h⟩ | h
        · refine r_rvT_put (rest := []) (r := some a_5) X hal hlt hP e_7 q1505 (Nat.le_of_ble_eq_true rfl) (Nat.le_of_ble_eq_true rfl) hl.1 (Nat.le_of_ble_eq_true rfl) dX0_put_20 ⟨(Nat.le_of_ble_eq_true rfl), (Nat.le_of_ble_eq_true rfl)⟩ (fun H locs o1 ce hP hce hf hv => ?_)
          refine r_catch (h := 42) hce hv hf (fun mag => by rw [htab]; exact hf_no X mag q568 (by decide) (by decide) hf ((X.2.2.2 hal).2.2.2.2.2.2.1 _ (List.mem_of_getElem? (i := 4) rfl : ("java/lang/ArrayIndexOutOfBoundsException", "java/lang/NullPointerException") ∈ ncl)) (hf_no X mag q484 (by decide) (by decide) hf ((X.2.2.2 hal).2.2.2.2.2.2.1 _ (List.mem_of_getElem? (i := 1) rfl : ("java/lang/ArrayIndexOutOfBoundsException", "java/lang/ClassCastException") ∈ ncl)) (hf_hit X mag q593 (by decide) (by decide) hf (X.2.2.1 _ q2300 rfl)))) ?_
          refine lv_astore (lv' := [(5, .ref o1), (0, .ref (G.2.2.1 0)), (1, .int a1), (2, .int a2), (3, .long a3)]) hx hb dX0_put_42 hl (by decide) rfl (fun ls hl => ?_)
          refine lv_bipush (v := (-13 : Int32)) hx hb dX0_put_44 (by decide) ?_
          refine W.widen (k := 3) (n := 1210) (Nat.le_of_ble_eq_true rfl) (Nat.le_of_ble_eq_true rfl) ?_
          exact hret _ _ _ _ _ _ dX0_put_46 (xr_v h) (xr_g _ h) hP
        · have hdone := trivial
          obtain ⟨r_9, σ_10, e_8, h⟩ := bo2_ex h
          refine r_rv_put (rest := []) (r := some a_5) X hP e_8 q1505 (Nat.le_of_ble_eq_true rfl) (Nat.le_of_ble_eq_true rfl) hl.1 (Nat.le_of_ble_eq_true rfl) dX0_put_20 ⟨(Nat.le_of_ble_eq_true rfl), (Nat.le_of_ble_eq_true rfl)⟩ (fun H locs hP => ?_)
          refine lv_if_eq (tgt := 30) hx hb dX0_put_23 (by decide) (fun c_11 => ?_) (fun c_11 => ?_)
          · have h := it_t h c_11
            refine lv_iconst (v := (-1 : Int32)) hx hb dX0_put_30 (by decide) ?_
            refine W.widen (k := 3) (n := 1210) (Nat.le_of_ble_eq_true rfl) (Nat.le_of_ble_eq_true rfl) ?_
            exact hret _ _ _ _ _ _ dX0_put_31 (xr_v h) (xr_s h) hP
          · have h := it_f h c_11
            refine lv_iconst (v := (1 : Int32)) hx hb dX0_put_26 (by decide) ?_
            refine lv_goto (tgt := 31) hx hb dX0_put_27 (by decide) ?_
            refine W.widen (k := 3) (n := 1210) (Nat.le_of_ble_eq_true rfl) (Nat.le_of_ble_eq_true rfl) ?_
            exact hret _ _ _ _ _ _ dX0_put_31 (xr_v h) (xr_s h) hP
    · refine r_catch (h := 37) hce hv hf (fun mag => by rw [htab]; exact hf_no X mag q568 (by decide) (by decide) hf ((X.2.2.2 hal).2.2.2.2.2.2.1 _ (List.mem_of_getElem? (i := 3) rfl : ("java/lang/ClassCastException", "java/lang/NullPointerException") ∈ ncl)) (hf_hit X mag q484 (by decide) (by decide) hf (X.2.2.1 _ q546 rfl))) ?_
      refine lv_astore (lv' := [(5, .ref o1), (0, .ref (G.2.2.1 0)), (1, .int a1), (2, .int a2), (3, .long a3)]) hx hb dX0_put_37 hl (by decide) rfl (fun ls hl => ?_)
      refine lv_bipush (v := (-12 : Int32)) hx hb dX0_put_39 (by decide) ?_
      refine W.widen (k := 3) (n := 1210) (Nat.le_of_ble_eq_true rfl) (Nat.le_trans hn1 (Nat.le_of_ble_eq_true rfl)) ?_
      exact hret _ _ _ _ _ _ dX0_put_41 (xr_v h) (xr_g _ h) hP
  · have h := it_t h c_3
    refine lv_iconst (v := (-1 : Int32)) hx hb dX0_put_7 (by decide) ?_
    refine W.widen (k := 3) (n := 1210) (Nat.le_of_ble_eq_true rfl) (Nat.le_of_ble_eq_true rfl) ?_
    exact hret _ _ _ _ _ _ dX0_put_8 (xr_v h) (xr_s h) hP
def cp_element (ks : Nat → ClassId) (σ : ST) (a1 : Int32) (a2 : Int32) : Option (Int64 × ST) :=
  bo (cp_isShelf a1) (fun (r_2 : Int32) => (if r_2 = 0 then some ((-9223372036854775808 : Int64), σ) else ck a1 6 ((ccx σ (lR σ 0 33 a1) [15, 16, 17, 18, 19] [20, 21, 22, 23, 24, 25, 26, 27] (nlx (lR σ 0 33 a1) (some ((-9223372036854775808 : Int64), σ)) (fun (a_5 : Nat) => oex (rv_at_T ks σ (some a_5) a2) (some ((-9223372036854775808 : Int64), σ)) (bo (rv_at ks σ (some a_5) a2) (fun (r_9 : Int64) => some (r_9, σ))))) (some ((-9223372036854775808 : Int64), σ))))))
abbrev rm_X0_element : Room := rmc 10 10325 3 1210
set_option maxHeartbeats 4000000 in
set_option maxRecDepth 100000 in
theorem mt_X0_element (l : Launch) (G : GT) (hal : G.2.2.2.2 = true) (hlt : l.stackTraces = false) (σ : ST) (a1 : Int32) (a2 : Int32) {r : Int64} {u : ST} (h : cp_element G.2.1 σ a1 a2 = some (r, u)) : XL l cp_ft G yX0_element (wsW_ yX0_element cX0_element 4 (some .long) [(11, 24, 25, 132), (11, 24, 30, 130), (11, 24, 35, 134)]) rm_X0_element 3 1210 [.ref (G.2.2.1 0), .int a1, .int a2] σ (r, u) := by
  refine m_enterWL (by decide) rfl (lv := [(0, .ref (G.2.2.1 0)), (1, .int a1), (2, .int a2)]) rfl ?_
  intro p e s m args below meth c H locs ls Q X htab hret hP hl
  have hx := X.1.1
  have hb := X.1.2.1
  have hown := X.1.2.2.2.1
  have hts := X.1.2.2.2.2
  unfold cp_element at h
  refine lv_iload_n hx hb dX0_element_0 rfl (lv_at hl 1 rfl) ?_
  obtain ⟨r_2, e_1, h⟩ := bo_ex h
  refine r_calli (r_runS (rest := []) X hP (mt_X0_isShelf l G σ a1 e_1) (va_cwS 1 hts (lw_S q612 q613 q110 q614) rfl rfl rfl cdX0_isShelf ⟨Nat.le_of_ble_eq_true rfl, Nat.le_of_ble_eq_true rfl⟩) rfl hl.1 rfl (Nat.le_of_ble_eq_true rfl) dX0_element_1 ⟨Nat.le_of_ble_eq_true rfl, Nat.le_of_ble_eq_true rfl⟩) hP (fun H locs hP => ?_)
  refine lv_if_ne (tgt := 11) hx hb dX0_element_4 (by decide) (fun c_3 => ?_) (fun c_3 => ?_)
  · have h := it_f h c_3
    refine lv_aload_n hx hb dX0_element_11 rfl (lv_at hl 0 rfl) ?_
    refine r_geta X hP 0 cp_c0 lk_0 33 (Nat.le_of_ble_eq_true rfl) q322 cp_f33 dX0_element_12 ?_
    refine lv_iload_n hx hb dX0_element_15 rfl (lv_at hl 1 rfl) ?_
    refine r_aald (t := 5) X hP 12 cp_c12 rfl (ck_in h) dX0_element_16 ?_
    have h := ck_k h
    refine r_ccx (rest := []) X hal hlt hP h q1504 hcs_Row hbd_Row cc_Row hl.1 (Nat.le_of_ble_eq_true rfl) (Nat.le_of_ble_eq_true rfl) (Nat.le_of_ble_eq_true rfl) (Nat.le_of_ble_eq_true rfl) (Nat.le_of_ble_eq_true rfl) dX0_element_17 (fun h => ?_) (fun H locs n1 o1 ce h hn1 hP hce hf hv => ?_)
    · refine lv_iload_n hx hb dX0_element_20 rfl (lv_at hl 2 rfl) ?_
      rcases nlx_el h with ⟨hn_4, h⟩ | ⟨a_5, ha_6, h⟩
      · rw [hn_4]
        refine r_nullV (As := [.int a2]) (rest := []) X q1528 q1530 (X.2.2.1 _ q1529 rfl) cdR_at rfl rfl dX0_element_21 ?_
        refine r_npe X hal hlt hP hl.1 (Nat.le_of_ble_eq_true rfl) (Nat.le_of_ble_eq_true rfl) (Nat.le_of_ble_eq_true rfl) (Nat.le_of_ble_eq_true rfl) (Nat.le_of_ble_eq_true rfl) (fun H locs o1 ce hP hce hf hv => ?_)
        refine r_catch (h := 25) hce hv hf (fun mag => by rw [htab]; exact hf_hit X mag q568 (by decide) (by decide) hf (X.2.2.1 _ q590 rfl)) ?_
        refine lv_astore_n (lv' := [(3, .ref o1), (0, .ref (G.2.2.1 0)), (1, .int a1), (2, .int a2)]) hx hb dX0_element_25 rfl hl (by decide) rfl (fun ls hl => ?_)
        refine lv_ldc2 hx hb hown (hts _ q1527) dX0_element_26 ?_
        refine W.widen (k := 3) (n := 1210) (Nat.le_of_ble_eq_true rfl) (Nat.le_of_ble_eq_true rfl) ?_
        exact hret _ _ _ _ _ _ dX0_element_29 (xr_v h) (xr_g _ h) hP
      · rw [ha_6]
        rcases oex_el h with ⟨e_7, h⟩ | h
        · refine r_rvT_at (rest := []) (r := some a_5) X hal hlt hP e_7 q1528 (Nat.le_of_ble_eq_true rfl) (Nat.le_of_ble_eq_true rfl) hl.1 (Nat.le_of_ble_eq_true rfl) dX0_element_21 ⟨(Nat.le_of_ble_eq_true rfl), (Nat.le_of_ble_eq_true rfl)⟩ (fun H locs o1 ce hP hce hf hv => ?_)
          refine r_catch (h := 35) hce hv hf (fun mag => by rw [htab]; exact hf_no X mag q568 (by decide) (by decide) hf ((X.2.2.2 hal).2.2.2.2.2.2.1 _ (List.mem_of_getElem? (i := 4) rfl : ("java/lang/ArrayIndexOutOfBoundsException", "java/lang/NullPointerException") ∈ ncl)) (hf_no X mag q484 (by decide) (by decide) hf ((X.2.2.2 hal).2.2.2.2.2.2.1 _ (List.mem_of_getElem? (i := 1) rfl : ("java/lang/ArrayIndexOutOfBoundsException", "java/lang/ClassCastException") ∈ ncl)) (hf_hit X mag q593 (by decide) (by decide) hf (X.2.2.1 _ q2300 rfl)))) ?_
          refine lv_astore_n (lv' := [(3, .ref o1), (0, .ref (G.2.2.1 0)), (1, .int a1), (2, .int a2)]) hx hb dX0_element_35 rfl hl (by decide) rfl (fun ls hl => ?_)
          refine lv_ldc2 hx hb hown (hts _ q1527) dX0_element_36 ?_
          refine W.widen (k := 3) (n := 1210) (Nat.le_of_ble_eq_true rfl) (Nat.le_of_ble_eq_true rfl) ?_
          exact hret _ _ _ _ _ _ dX0_element_39 (xr_v h) (xr_g _ h) hP
        · have hdone := trivial
          obtain ⟨r_9, e_8, h⟩ := bo_ex h
          refine r_rv_at (rest := []) (r := some a_5) X hP e_8 q1528 (Nat.le_of_ble_eq_true rfl) (Nat.le_of_ble_eq_true rfl) hl.1 (Nat.le_of_ble_eq_true rfl) dX0_element_21 ⟨(Nat.le_of_ble_eq_true rfl), (Nat.le_of_ble_eq_true rfl)⟩ (fun H locs hP => ?_)
          refine W.widen (k := 3) (n := 1210) (Nat.le_of_ble_eq_true rfl) (Nat.le_of_ble_eq_true rfl) ?_
          exact hret _ _ _ _ _ _ dX0_element_24 (xr_v h) (xr_s h) hP
    · refine r_catch (h := 30) hce hv hf (fun mag => by rw [htab]; exact hf_no X mag q568 (by decide) (by decide) hf ((X.2.2.2 hal).2.2.2.2.2.2.1 _ (List.mem_of_getElem? (i := 3) rfl : ("java/lang/ClassCastException", "java/lang/NullPointerException") ∈ ncl)) (hf_hit X mag q484 (by decide) (by decide) hf (X.2.2.1 _ q546 rfl))) ?_
      refine lv_astore_n (lv' := [(3, .ref o1), (0, .ref (G.2.2.1 0)), (1, .int a1), (2, .int a2)]) hx hb dX0_element_30 rfl hl (by decide) rfl (fun ls hl => ?_)
      refine lv_ldc2 hx hb hown (hts _ q1527) dX0_element_31 ?_
      refine W.widen (k := 3) (n := 1210) (Nat.le_of_ble_eq_true rfl) (Nat.le_trans hn1 (Nat.le_of_ble_eq_true rfl)) ?_
      exact hret _ _ _ _ _ _ dX0_element_34 (xr_v h) (xr_g _ h) hP
  · have h := it_t h c_3
    refine lv_ldc2 hx hb hown (hts _ q1527) dX0_element_7 ?_
    refine W.widen (k := 3) (n := 1210) (Nat.le_of_ble_eq_true rfl) (Nat.le_of_ble_eq_true rfl) ?_
    exact hret _ _ _ _ _ _ dX0_element_10 (xr_v h) (xr_s h) hP
def cp_film (ks : Nat → ClassId) (σ : ST) (a1 : Int32) : Option (Int32 × ST) :=
  bo (cp_isShelf a1) (fun (r_2 : Int32) => (if r_2 = 0 then some ((-1 : Int32), σ) else ck a1 6 ((ccx σ (lR σ 0 33 a1) [15] [16, 17, 18, 19, 20, 21, 22, 23, 24, 25, 26, 27] (nlx (lR σ 0 33 a1) (some ((-11 : Int32), σ)) (fun (a_5 : Nat) => bo (pis σ (some a_5) 15) (fun (_ : Nat) => bo (r15_size ks σ a_5) (fun (r_10 : Int32) => bo (cp_isEmpty σ) (fun (r_12 : Int32) => (if r_12 = 0 then bo2 (cp_filmed ks σ (lR σ 0 33 a1)) (fun (r_15 : Int32) (σ_16 : ST) => some (r_15, σ_16)) else some ((-5 : Int32), σ))))))) (some ((-12 : Int32), σ))))))
abbrev rm_X0_film : Room := rmc 267 10248 3 1210
set_option maxHeartbeats 4000000 in
set_option maxRecDepth 100000 in
theorem mt_X0_film (l : Launch) (G : GT) (hal : G.2.2.2.2 = true) (hlt : l.stackTraces = false) (σ : ST) (a1 : Int32) {r : Int32} {u : ST} (h : cp_film G.2.1 σ a1 = some (r, u)) : XI l cp_ft G yX0_film (wsW_ yX0_film cX0_film 3 (some .int) [(9, 41, 42, 130), (9, 41, 46, 132)]) rm_X0_film 3 1210 [.ref (G.2.2.1 0), .int a1] σ (r, u) := by
  refine m_enterWI (by decide) rfl (lv := [(0, .ref (G.2.2.1 0)), (1, .int a1)]) rfl ?_
  intro p e s m args below meth c H locs ls Q X htab hret hP hl
  have hx := X.1.1
  have hb := X.1.2.1
  have hown := X.1.2.2.2.1
  have hts := X.1.2.2.2.2
  unfold cp_film at h
  refine lv_iload_n hx hb dX0_film_0 rfl (lv_at hl 1 rfl) ?_
  obtain ⟨r_2, e_1, h⟩ := bo_ex h
  refine r_calli (r_runS (rest := []) X hP (mt_X0_isShelf l G σ a1 e_1) (va_cwS 1 hts (lw_S q612 q613 q110 q614) rfl rfl rfl cdX0_isShelf ⟨Nat.le_of_ble_eq_true rfl, Nat.le_of_ble_eq_true rfl⟩) rfl hl.1 rfl (Nat.le_of_ble_eq_true rfl) dX0_film_1 ⟨Nat.le_of_ble_eq_true rfl, Nat.le_of_ble_eq_true rfl⟩) hP (fun H locs hP => ?_)
  refine lv_if_ne (tgt := 9) hx hb dX0_film_4 (by decide) (fun c_3 => ?_) (fun c_3 => ?_)
  · have h := it_f h c_3
    refine lv_aload_n hx hb dX0_film_9 rfl (lv_at hl 0 rfl) ?_
    refine r_geta X hP 0 cp_c0 lk_0 33 (Nat.le_of_ble_eq_true rfl) q322 cp_f33 dX0_film_10 ?_
    refine lv_iload_n hx hb dX0_film_13 rfl (lv_at hl 1 rfl) ?_
    refine r_aald (t := 5) X hP 12 cp_c12 rfl (ck_in h) dX0_film_14 ?_
    have h := ck_k h
    refine r_ccx (rest := []) X hal hlt hP h q1141 hcs_ByteRow hbd_ByteRow cc_ByteRow hl.1 (Nat.le_of_ble_eq_true rfl) (Nat.le_of_ble_eq_true rfl) (Nat.le_of_ble_eq_true rfl) (Nat.le_of_ble_eq_true rfl) (Nat.le_of_ble_eq_true rfl) dX0_film_15 (fun h => ?_) (fun H locs n1 o1 ce h hn1 hP hce hf hv => ?_)
    · refine rr_astore_n (lv' := [(2, va_rf (lR σ 0 33 a1)), (0, .ref (G.2.2.1 0)), (1, .int a1)]) hx hb dX0_film_18 rfl hl (by decide) rfl (fun ls hl => ?_)
      refine rr_aload_n hx hb dX0_film_19 rfl (lv_at hl 0 rfl) ?_
      rcases nlx_el h with ⟨hn_4, h⟩ | ⟨a_5, ha_6, h⟩
      · rw [hn_4]
        refine r_nullD (As := []) (rest := []) X q1142 q1143 q1144 q1145 cdX26_size rfl rfl dX0_film_20 ?_
        refine r_npe X hal hlt hP hl.1 (Nat.le_of_ble_eq_true rfl) (Nat.le_of_ble_eq_true rfl) (Nat.le_of_ble_eq_true rfl) (Nat.le_of_ble_eq_true rfl) (Nat.le_of_ble_eq_true rfl) (fun H locs o1 ce hP hce hf hv => ?_)
        refine r_catch (h := 46) hce hv hf (fun mag => by rw [htab]; exact hf_no X mag q484 (by decide) (by decide) hf ((X.2.2.2 hal).2.2.2.2.2.2.1 _ (List.mem_of_getElem? (i := 0) rfl : ("java/lang/NullPointerException", "java/lang/ClassCastException") ∈ ncl)) (hf_hit X mag q568 (by decide) (by decide) hf (X.2.2.1 _ q590 rfl))) ?_
        refine lv_astore_n (lv' := [(2, .ref o1), (0, .ref (G.2.2.1 0)), (1, .int a1)]) hx hb dX0_film_46 rfl hl (by decide) rfl (fun ls hl => ?_)
        refine lv_bipush (v := (-11 : Int32)) hx hb dX0_film_47 (by decide) ?_
        refine W.widen (k := 3) (n := 1210) (Nat.le_of_ble_eq_true rfl) (Nat.le_of_ble_eq_true rfl) ?_
        exact hret _ _ _ _ _ _ dX0_film_49 (xr_v h) (xr_g _ h) hP
      · rw [ha_6]
        obtain ⟨a_7, e_8, h⟩ := bo_ex h
        obtain ⟨r_10, e_9, h⟩ := bo_ex h
        refine r_calli (r_runP (rest := []) X hP (pis_self e_8) lk_15 (mt_X26_size l G σ a_5 e_9) (cwV 0 hts (lw_V q1142 q1143 q1144 q151 q1145) rfl rfl rfl ⟨rfl, cdX26_size⟩ ⟨Nat.le_of_ble_eq_true rfl, Nat.le_of_ble_eq_true rfl⟩) rfl hl.1 rfl (Nat.le_of_ble_eq_true rfl) dX0_film_20 ⟨Nat.le_of_ble_eq_true rfl, Nat.le_of_ble_eq_true rfl⟩) hP (fun H locs hP => ?_)
        refine lv_pop hx hb dX0_film_23 rfl ?_
        refine lv_aload_n hx hb dX0_film_24 rfl (lv_at hl 1 rfl) ?_
        obtain ⟨r_12, e_11, h⟩ := bo_ex h
        refine r_calli (r_runV (rest := []) X hP 0 cp_c0 lk_0 (mt_X0_isEmpty l G σ e_11) (cwV 0 hts (lw_V q936 q938 qs22 q110 q939) rfl rfl rfl ⟨rfl, cdX0_isEmpty⟩ ⟨Nat.le_of_ble_eq_true rfl, Nat.le_of_ble_eq_true rfl⟩) rfl hl.1 rfl (Nat.le_of_ble_eq_true rfl) dX0_film_25 ⟨Nat.le_of_ble_eq_true rfl, Nat.le_of_ble_eq_true rfl⟩) hP (fun H locs hP => ?_)
        refine lv_if_eq (tgt := 36) hx hb dX0_film_28 (by decide) (fun c_13 => ?_) (fun c_13 => ?_)
        · have h := it_t h c_13
          refine lv_aload_n hx hb dX0_film_36 rfl (lv_at hl 1 rfl) ?_
          refine rr_aload_n hx hb dX0_film_37 rfl (lv_at hl 0 rfl) ?_
          obtain ⟨r_15, σ_16, e_14, h⟩ := bo2_ex h
          refine r_calli (r_runV (rest := []) X hP 0 cp_c0 lk_0 (mt_X0_filmed l G σ (lR σ 0 33 a1) e_14) (cwV 1 hts (lw_V q1146 q1148 qs45 q110 q1149) rfl rfl rfl ⟨rfl, cdX0_filmed⟩ ⟨Nat.le_of_ble_eq_true rfl, Nat.le_of_ble_eq_true rfl⟩) rfl hl.1 rfl (Nat.le_of_ble_eq_true rfl) dX0_film_38 ⟨Nat.le_of_ble_eq_true rfl, Nat.le_of_ble_eq_true rfl⟩) hP (fun H locs hP => ?_)
          refine W.widen (k := 3) (n := 1210) (Nat.le_of_ble_eq_true rfl) (Nat.le_of_ble_eq_true rfl) ?_
          exact hret _ _ _ _ _ _ dX0_film_41 (xr_v h) (xr_s h) hP
        · have h := it_f h c_13
          refine lv_bipush (v := (-5 : Int32)) hx hb dX0_film_31 (by decide) ?_
          refine lv_goto (tgt := 41) hx hb dX0_film_33 (by decide) ?_
          refine W.widen (k := 3) (n := 1210) (Nat.le_of_ble_eq_true rfl) (Nat.le_of_ble_eq_true rfl) ?_
          exact hret _ _ _ _ _ _ dX0_film_41 (xr_v h) (xr_s h) hP
    · refine r_catch (h := 42) hce hv hf (fun mag => by rw [htab]; exact hf_hit X mag q484 (by decide) (by decide) hf (X.2.2.1 _ q546 rfl)) ?_
      refine lv_astore_n (lv' := [(2, .ref o1), (0, .ref (G.2.2.1 0)), (1, .int a1)]) hx hb dX0_film_42 rfl hl (by decide) rfl (fun ls hl => ?_)
      refine lv_bipush (v := (-12 : Int32)) hx hb dX0_film_43 (by decide) ?_
      refine W.widen (k := 3) (n := 1210) (Nat.le_of_ble_eq_true rfl) (Nat.le_trans hn1 (Nat.le_of_ble_eq_true rfl)) ?_
      exact hret _ _ _ _ _ _ dX0_film_45 (xr_v h) (xr_g _ h) hP
  · have h := it_t h c_3
    refine lv_iconst (v := (-1 : Int32)) hx hb dX0_film_7 (by decide) ?_
    refine W.widen (k := 3) (n := 1210) (Nat.le_of_ble_eq_true rfl) (Nat.le_of_ble_eq_true rfl) ?_
    exact hret _ _ _ _ _ _ dX0_film_8 (xr_v h) (xr_s h) hP
def cp_taken (ks : Nat → ClassId) (σ : ST) (a1 : Int32) (a2 : Int32) : Option (Int32 × ST) :=
  bo (cp_isShelf a1) (fun (r_2 : Int32) => (if r_2 = 0 then some ((-1 : Int32), σ) else bo (cp_in a2 (0 : Int32) (7 : Int32)) (fun (r_5 : Int32) => (if r_5 = 0 then some ((-1 : Int32), σ) else ck a1 6 ((ccx σ (lR σ 0 33 a1) [20, 21, 22, 23, 24, 25, 26, 27] [15, 16, 17, 18, 19] (nlx (lR σ 0 33 a1) (some ((-11 : Int32), σ)) (fun (a_8 : Nat) => bo (pv_isUnder σ (some a_8) a2) (fun (r_11 : Int32) => (if r_11 = 0 then some ((-12 : Int32), σ) else nlx (lR σ 0 33 a1) (some ((-11 : Int32), σ)) (fun (a_14 : Nat) => bo (pv_kind σ (some a_14)) (fun (r_17 : Int32) => some (r_17, σ))))))) (some ((-12 : Int32), σ))))))))
abbrev rm_X0_taken : Room := rmc 8 10248 3 1210
set_option maxHeartbeats 4000000 in
set_option maxRecDepth 100000 in
theorem mt_X0_taken (l : Launch) (G : GT) (hal : G.2.2.2.2 = true) (hlt : l.stackTraces = false) (σ : ST) (a1 : Int32) (a2 : Int32) {r : Int32} {u : ST} (h : cp_taken G.2.1 σ a1 a2 = some (r, u)) : XI l cp_ft G yX0_taken (wsW_ yX0_taken cX0_taken 4 (some .int) [(19, 46, 47, 132), (19, 46, 51, 130)]) rm_X0_taken 3 1210 [.ref (G.2.2.1 0), .int a1, .int a2] σ (r, u) := by
  refine m_enterWI (by decide) rfl (lv := [(0, .ref (G.2.2.1 0)), (1, .int a1), (2, .int a2)]) rfl ?_
  intro p e s m args below meth c H locs ls Q X htab hret hP hl
  have hx := X.1.1
  have hb := X.1.2.1
  have hown := X.1.2.2.2.1
  have hts := X.1.2.2.2.2
  unfold cp_taken at h
  refine lv_iload_n hx hb dX0_taken_0 rfl (lv_at hl 1 rfl) ?_
  obtain ⟨r_2, e_1, h⟩ := bo_ex h
  refine r_calli (r_runS (rest := []) X hP (mt_X0_isShelf l G σ a1 e_1) (va_cwS 1 hts (lw_S q612 q613 q110 q614) rfl rfl rfl cdX0_isShelf ⟨Nat.le_of_ble_eq_true rfl, Nat.le_of_ble_eq_true rfl⟩) rfl hl.1 rfl (Nat.le_of_ble_eq_true rfl) dX0_taken_1 ⟨Nat.le_of_ble_eq_true rfl, Nat.le_of_ble_eq_true rfl⟩) hP (fun H locs hP => ?_)
  refine lv_if_eq (tgt := 17) hx hb dX0_taken_4 (by decide) (fun c_3 => ?_) (fun c_3 => ?_)
  · have h := it_t h c_3
    refine lv_iconst (v := (-1 : Int32)) hx hb dX0_taken_17 (by decide) ?_
    refine W.widen (k := 3) (n := 1210) (Nat.le_of_ble_eq_true rfl) (Nat.le_of_ble_eq_true rfl) ?_
    exact hret _ _ _ _ _ _ dX0_taken_18 (xr_v h) (xr_s h) hP
  · have h := it_f h c_3
    refine lv_iload_n hx hb dX0_taken_7 rfl (lv_at hl 2 rfl) ?_
    refine lv_iconst (v := (0 : Int32)) hx hb dX0_taken_8 (by decide) ?_
    refine lv_bipush (v := (7 : Int32)) hx hb dX0_taken_9 (by decide) ?_
    obtain ⟨r_5, e_4, h⟩ := bo_ex h
    refine r_calli (r_runS (rest := []) X hP (mt_X0_in l G σ a2 (0 : Int32) (7 : Int32) e_4) (va_cwS 3 hts (lw_S q396 q397 q110 q398) rfl rfl rfl cdX0_in ⟨Nat.le_of_ble_eq_true rfl, Nat.le_of_ble_eq_true rfl⟩) rfl hl.1 rfl (Nat.le_of_ble_eq_true rfl) dX0_taken_11 ⟨Nat.le_of_ble_eq_true rfl, Nat.le_of_ble_eq_true rfl⟩) hP (fun H locs hP => ?_)
    refine lv_if_ne (tgt := 19) hx hb dX0_taken_14 (by decide) (fun c_6 => ?_) (fun c_6 => ?_)
    · have h := it_f h c_6
      refine lv_aload_n hx hb dX0_taken_19 rfl (lv_at hl 0 rfl) ?_
      refine r_geta X hP 0 cp_c0 lk_0 33 (Nat.le_of_ble_eq_true rfl) q322 cp_f33 dX0_taken_20 ?_
      refine lv_iload_n hx hb dX0_taken_23 rfl (lv_at hl 1 rfl) ?_
      refine r_aald (t := 5) X hP 12 cp_c12 rfl (ck_in h) dX0_taken_24 ?_
      have h := ck_k h
      refine r_ccx (rest := []) X hal hlt hP h q276 hcs_Plain hbd_Plain cc_Plain hl.1 (Nat.le_of_ble_eq_true rfl) (Nat.le_of_ble_eq_true rfl) (Nat.le_of_ble_eq_true rfl) (Nat.le_of_ble_eq_true rfl) (Nat.le_of_ble_eq_true rfl) dX0_taken_25 (fun h => ?_) (fun H locs n1 o1 ce h hn1 hP hce hf hv => ?_)
      · refine rr_astore_n (lv' := [(3, va_rf (lR σ 0 33 a1)), (0, .ref (G.2.2.1 0)), (1, .int a1), (2, .int a2)]) hx hb dX0_taken_28 rfl hl (by decide) rfl (fun ls hl => ?_)
        refine rr_aload_n hx hb dX0_taken_29 rfl (lv_at hl 0 rfl) ?_
        refine lv_iload_n hx hb dX0_taken_30 rfl (lv_at hl 3 rfl) ?_
        rcases nlx_el h with ⟨hn_7, h⟩ | ⟨a_8, ha_9, h⟩
        · rw [hn_7]
          refine r_nullD (As := [.int a2]) (rest := []) X q1580 q1581 q1582 q1600 cdX17_isUnder rfl rfl dX0_taken_31 ?_
          refine r_npe X hal hlt hP hl.1 (Nat.le_of_ble_eq_true rfl) (Nat.le_of_ble_eq_true rfl) (Nat.le_of_ble_eq_true rfl) (Nat.le_of_ble_eq_true rfl) (Nat.le_of_ble_eq_true rfl) (fun H locs o1 ce hP hce hf hv => ?_)
          refine r_catch (h := 47) hce hv hf (fun mag => by rw [htab]; exact hf_hit X mag q568 (by decide) (by decide) hf (X.2.2.1 _ q590 rfl)) ?_
          refine lv_astore_n (lv' := [(3, .ref o1), (0, .ref (G.2.2.1 0)), (1, .int a1), (2, .int a2)]) hx hb dX0_taken_47 rfl hl (by decide) rfl (fun ls hl => ?_)
          refine lv_bipush (v := (-11 : Int32)) hx hb dX0_taken_48 (by decide) ?_
          refine W.widen (k := 3) (n := 1210) (Nat.le_of_ble_eq_true rfl) (Nat.le_of_ble_eq_true rfl) ?_
          exact hret _ _ _ _ _ _ dX0_taken_50 (xr_v h) (xr_g _ h) hP
        · rw [ha_9]
          obtain ⟨r_11, e_10, h⟩ := bo_ex h
          refine r_pv_isUnder (u := σ) (r := (some a_8)) (rest := []) X hP e_10 q1580 (Nat.le_of_ble_eq_true rfl) (Nat.le_of_ble_eq_true rfl) hl.1 (Nat.le_of_ble_eq_true rfl) dX0_taken_31 ⟨Nat.le_of_ble_eq_true rfl, Nat.le_of_ble_eq_true rfl⟩ (fun H locs hP => ?_)
          refine lv_if_eq (tgt := 44) hx hb dX0_taken_34 (by decide) (fun c_12 => ?_) (fun c_12 => ?_)
          · have h := it_t h c_12
            refine lv_bipush (v := (-12 : Int32)) hx hb dX0_taken_44 (by decide) ?_
            refine W.widen (k := 3) (n := 1210) (Nat.le_of_ble_eq_true rfl) (Nat.le_of_ble_eq_true rfl) ?_
            exact hret _ _ _ _ _ _ dX0_taken_46 (xr_v h) (xr_s h) hP
          · have h := it_f h c_12
            refine rr_aload_n hx hb dX0_taken_37 rfl (lv_at hl 0 rfl) ?_
            rcases nlx_el h with ⟨hn_13, h⟩ | ⟨a_14, ha_15, h⟩
            · rw [hn_13]
              refine r_nullD (As := []) (rest := []) X q1627 q1602 q1603 q1626 cdX17_kind rfl rfl dX0_taken_38 ?_
              refine r_npe X hal hlt hP hl.1 (Nat.le_of_ble_eq_true rfl) (Nat.le_of_ble_eq_true rfl) (Nat.le_of_ble_eq_true rfl) (Nat.le_of_ble_eq_true rfl) (Nat.le_of_ble_eq_true rfl) (fun H locs o1 ce hP hce hf hv => ?_)
              refine r_catch (h := 47) hce hv hf (fun mag => by rw [htab]; exact hf_hit X mag q568 (by decide) (by decide) hf (X.2.2.1 _ q590 rfl)) ?_
              refine lv_astore_n (lv' := [(3, .ref o1), (0, .ref (G.2.2.1 0)), (1, .int a1), (2, .int a2)]) hx hb dX0_taken_47 rfl hl (by decide) rfl (fun ls hl => ?_)
              refine lv_bipush (v := (-11 : Int32)) hx hb dX0_taken_48 (by decide) ?_
              refine W.widen (k := 3) (n := 1210) (Nat.le_of_ble_eq_true rfl) (Nat.le_of_ble_eq_true rfl) ?_
              exact hret _ _ _ _ _ _ dX0_taken_50 (xr_v h) (xr_g _ h) hP
            · rw [ha_15]
              obtain ⟨r_17, e_16, h⟩ := bo_ex h
              refine r_pv_kind (rest := []) (r := some a_14) X hP e_16 q1627 (Nat.le_of_ble_eq_true rfl) (Nat.le_of_ble_eq_true rfl) hl.1 (Nat.le_of_ble_eq_true rfl) dX0_taken_38 ⟨(Nat.le_of_ble_eq_true rfl), (Nat.le_of_ble_eq_true rfl)⟩ (fun H locs hP => ?_)
              refine lv_goto (tgt := 46) hx hb dX0_taken_41 (by decide) ?_
              refine W.widen (k := 3) (n := 1210) (Nat.le_of_ble_eq_true rfl) (Nat.le_of_ble_eq_true rfl) ?_
              exact hret _ _ _ _ _ _ dX0_taken_46 (xr_v h) (xr_s h) hP
      · refine r_catch (h := 51) hce hv hf (fun mag => by rw [htab]; exact hf_no X mag q568 (by decide) (by decide) hf ((X.2.2.2 hal).2.2.2.2.2.2.1 _ (List.mem_of_getElem? (i := 3) rfl : ("java/lang/ClassCastException", "java/lang/NullPointerException") ∈ ncl)) (hf_hit X mag q484 (by decide) (by decide) hf (X.2.2.1 _ q546 rfl))) ?_
        refine lv_astore_n (lv' := [(3, .ref o1), (0, .ref (G.2.2.1 0)), (1, .int a1), (2, .int a2)]) hx hb dX0_taken_51 rfl hl (by decide) rfl (fun ls hl => ?_)
        refine lv_bipush (v := (-12 : Int32)) hx hb dX0_taken_52 (by decide) ?_
        refine W.widen (k := 3) (n := 1210) (Nat.le_of_ble_eq_true rfl) (Nat.le_trans hn1 (Nat.le_of_ble_eq_true rfl)) ?_
        exact hret _ _ _ _ _ _ dX0_taken_54 (xr_v h) (xr_g _ h) hP
    · have h := it_t h c_6
      refine lv_iconst (v := (-1 : Int32)) hx hb dX0_taken_17 (by decide) ?_
      refine W.widen (k := 3) (n := 1210) (Nat.le_of_ble_eq_true rfl) (Nat.le_of_ble_eq_true rfl) ?_
      exact hret _ _ _ _ _ _ dX0_taken_18 (xr_v h) (xr_s h) hP
def cp_cards_B36 (ks : Nat → ClassId) (lim : Nat) (slim : Nat) (l2 : Int32) (l3 : Int32) (l5 : Option Nat) (rc36 : Int32 → Int32 → ST → Option (Int32 × ST)) (w4 : Int32) (w6 : Int32) (σ : ST) : Option (Int32 × ST) :=
  (if l3 ≤ w6 then lm σ lim slim 0 0 (some (w4, σ)) else (if (20 : Int32) ≤ (gI σ 0 5) then lm σ lim slim 0 0 (some (w4, σ)) else lm σ lim slim 1 8 (nlx l5 (some (w4, σ)) (fun (a_14 : Nat) => bo (pis σ (some a_14) 16) (fun (_ : Nat) => lm σ lim slim 3 1210 (oex (r16_at_T ks σ a_14 (l2 + ((3 : Int32) * w6))) (some (w4, σ)) (lm σ lim slim 0 0 (bo (pis σ (some a_14) 16) (fun (_ : Nat) => bo (r16_at ks σ a_14 (l2 + ((3 : Int32) * w6))) (fun (r_26 : Int64) => lm σ lim slim 1 8 (nlx l5 (some (w4, σ)) (fun (a_28 : Nat) => bo (pis σ (some a_28) 16) (fun (_ : Nat) => lm σ lim slim 3 1210 (oex (r16_at_T ks σ a_28 ((l2 + ((3 : Int32) * w6)) + (1 : Int32))) (some (w4, σ)) (lm σ lim slim 0 0 (bo (pis σ (some a_28) 16) (fun (_ : Nat) => bo (r16_at ks σ a_28 ((l2 + ((3 : Int32) * w6)) + (1 : Int32))) (fun (r_40 : Int64) => lm σ lim slim 1 8 (nlx l5 (some (w4, σ)) (fun (a_42 : Nat) => bo (pis σ (some a_42) 16) (fun (_ : Nat) => lm σ lim slim 3 1210 (oex (r16_at_T ks σ a_42 ((l2 + ((3 : Int32) * w6)) + (2 : Int32))) (some (w4, σ)) (lm σ lim slim 0 0 (bo (pis σ (some a_42) 16) (fun (_ : Nat) => bo (r16_at ks σ a_42 ((l2 + ((3 : Int32) * w6)) + (2 : Int32))) (fun (r_54 : Int64) => lm σ lim slim 0 0 (bo (cp_isCardSo σ ((r_26).toInt32) ((r_40).toInt32) ((r_54).toInt32)) (fun (r_57 : Int32) => (if r_57 = 0 then lm σ lim slim 0 0 (some (w4, σ)) else lm σ lim slim 1 3 (bo2 (cp_addCard σ ((r_26).toInt32) ((r_40).toInt32) ((r_54).toInt32)) (fun (r_61 : Int32) (σ_62 : ST) => (rc36 (w4 + (1 : Int32)) (w6 + (1 : Int32)) σ_62))))))))))))))))))))))))))))))))
def cp_cards (ks : Nat → ClassId) (lim : Nat) (slim : Nat) (σ : ST) (a1 : Int32) (a2 : Int32) (a3 : Int32) : Option (Int32 × ST) :=
  lm σ lim slim 0 0 (bo (cp_isShelf a1) (fun (r_3 : Int32) => (if r_3 = 0 then lm σ lim slim 0 0 (some ((-1 : Int32), σ)) else lm σ lim slim 0 0 (bo (cp_in a3 (1 : Int32) (20 : Int32)) (fun (r_7 : Int32) => (if r_7 = 0 then lm σ lim slim 0 0 (some ((-1 : Int32), σ)) else ck a1 6 (lm σ lim slim 3 1210 ((ccx σ (lR σ 0 33 a1) [16] [15, 17, 18, 19, 20, 21, 22, 23, 24, 25, 26, 27] (wl3 (cp_cards_B36 ks lim slim a2 a3 (lR σ 0 33 a1)) FU (0 : Int32) (0 : Int32) σ) (some ((-12 : Int32), σ)))))))))))
set_option maxHeartbeats 4000000 in
set_option maxRecDepth 100000 in
theorem mt_X0_cards (l : Launch) (G : GT) (lim : Nat) (slim : Nat) (hal : G.2.2.2.2 = true) (hlt : l.stackTraces = false) (σ : ST) (a1 : Int32) (a2 : Int32) (a3 : Int32) {r : Int32} {u : ST} (h : cp_cards G.2.1 lim slim σ a1 a2 a3 = some (r, u)) : XI l cp_ft G yX0_cards (wsW_ yX0_cards cX0_cards 11 (some .int) [(22, 108, 132, 130), (109, 129, 132, 130), (22, 108, 137, 132), (109, 129, 137, 132), (22, 108, 142, 134), (109, 129, 142, 134)]) (rmc 10 10321 (lim - szo σ) (slim - suo σ)) (lim - szo σ) (slim - suo σ) [.ref (G.2.2.1 0), .int a1, .int a2, .int a3] σ (r, u) := by
  refine m_enterWIL hal (by decide) rfl (lv := [(0, .ref (G.2.2.1 0)), (1, .int a1), (2, .int a2), (3, .int a3)]) rfl ?_
  intro p e s m args below meth c H locs ls Q X htab h0 hret hP hl
  have hx := X.1.1
  have hb := X.1.2.1
  have hown := X.1.2.2.2.1
  have hts := X.1.2.2.2.2
  unfold cp_cards at h
  refine lv_iload_n hx hb dX0_cards_0 rfl (lv_at hl 1 rfl) ?_
  have hlm_1 := lm_in h
  have h := lm_k h
  obtain ⟨r_3, e_2, h⟩ := bo_ex h
  refine W.le fun z1 z2 => ?_
  refine r_calliL hal h0 (r_runS (rest := []) X hP (mt_X0_isShelf l G σ a1 e_2) (va_cwS 1 hts (lw_S q612 q613 q110 q614) rfl rfl rfl cdX0_isShelf (rm_lx (f := 1) (lo := 22) (f2 := 10) (lo2 := 10321) rfl rfl rfl rfl (by omega) (by omega))) rfl hl.1 rfl (Nat.le_of_ble_eq_true rfl) dX0_cards_1 (lim_h0 hal hP h0 z1 z2 hlm_1 rfl rfl)) hP (fun H locs hP => ?_)
  refine lv_if_eq (tgt := 17) hx hb dX0_cards_4 (by decide) (fun c_4 => ?_) (fun c_4 => ?_)
  · have h := it_t h c_4
    refine lv_iconst (v := (-1 : Int32)) hx hb dX0_cards_17 (by decide) ?_
    refine W.widen (k := lim - szo σ) (n := slim - suo σ) (Nat.sub_le_sub_right (lm_in h).1 _) (Nat.sub_le_sub_right (lm_in h).2 _) ?_
    have h := lm_k h
    exact hret _ _ _ _ _ _ dX0_cards_18 (xr_v h) (xr_s h) hP
  · have h := it_f h c_4
    refine lv_iload_n hx hb dX0_cards_7 rfl (lv_at hl 3 rfl) ?_
    refine lv_iconst (v := (1 : Int32)) hx hb dX0_cards_8 (by decide) ?_
    refine lv_bipush (v := (20 : Int32)) hx hb dX0_cards_9 (by decide) ?_
    have hlm_5 := lm_in h
    have h := lm_k h
    obtain ⟨r_7, e_6, h⟩ := bo_ex h
    refine W.le fun z1 z2 => ?_
    refine r_calliL hal h0 (r_runS (rest := []) X hP (mt_X0_in l G σ a3 (1 : Int32) (20 : Int32) e_6) (va_cwS 3 hts (lw_S q396 q397 q110 q398) rfl rfl rfl cdX0_in (rm_lx (f := 0) (lo := 0) (f2 := 10) (lo2 := 10321) rfl rfl rfl rfl (by omega) (by omega))) rfl hl.1 rfl (Nat.le_of_ble_eq_true rfl) dX0_cards_11 (lim_h0 hal hP h0 z1 z2 hlm_5 rfl rfl)) hP (fun H locs hP => ?_)
    refine lv_if_ne (tgt := 19) hx hb dX0_cards_14 (by decide) (fun c_8 => ?_) (fun c_8 => ?_)
    · have h := it_f h c_8
      refine lv_iconst (v := (0 : Int32)) hx hb dX0_cards_19 (by decide) ?_
      refine lv_istore (lv' := [(4, .int (0 : Int32)), (0, .ref (G.2.2.1 0)), (1, .int a1), (2, .int a2), (3, .int a3)]) hx hb dX0_cards_20 hl (by decide) rfl (fun ls hl => ?_)
      refine lv_aload_n hx hb dX0_cards_22 rfl (lv_at hl 1 rfl) ?_
      refine r_geta X hP 0 cp_c0 lk_0 33 (Nat.le_of_ble_eq_true rfl) q322 cp_f33 dX0_cards_23 ?_
      refine lv_iload_n hx hb dX0_cards_26 rfl (lv_at hl 2 rfl) ?_
      refine r_aald (t := 5) X hP 12 cp_c12 rfl (ck_in h) dX0_cards_27 ?_
      have h := ck_k h
      have hlm_9 := lm_in h
      have h := lm_k h
      refine W.le fun z1 z2 => ?_
      have hr_10 : (szo σ - szo σ) + 3 ≤ lim - szo σ ∧ (suo σ - suo σ) + 1210 ≤ slim - suo σ := lim_hb hal hP h0 z1 z2 hlm_9
      refine r_ccx (rest := []) X hal hlt hP h q615 hcs_ShortRow hbd_ShortRow cc_ShortRow hl.1 (Nat.le_of_ble_eq_true rfl) (Nat.le_of_ble_eq_true rfl) (Nat.le_of_ble_eq_true rfl) hr_10.1 hr_10.2 dX0_cards_28 (fun h => ?_) (fun H locs n1 o1 ce h hn1 hP hce hf hv => ?_)
      · refine rr_astore (lv' := [(5, va_rf (lR σ 0 33 a1)), (4, .int (0 : Int32)), (0, .ref (G.2.2.1 0)), (1, .int a1), (2, .int a2), (3, .int a3)]) hx hb dX0_cards_31 hl (by decide) rfl (fun ls hl => ?_)
        refine lv_iconst (v := (0 : Int32)) hx hb dX0_cards_33 (by decide) ?_
        refine lv_istore (lv' := [(6, .int (0 : Int32)), (5, va_rf (lR σ 0 33 a1)), (4, .int (0 : Int32)), (0, .ref (G.2.2.1 0)), (1, .int a1), (2, .int a2), (3, .int a3)]) hx hb dX0_cards_34 hl (by decide) (by simp [rr_cat]) (fun ls hl => ?_)
        have hL_63 : ∀ (n : Nat) (w_64 : Int32) (w_65 : Int32) (σ_66 : ST) (H : Heap) (locs : List Loc) (ls : Array Slot), wl3 (cp_cards_B36 G.2.1 lim slim a2 a3 (lR σ 0 33 a1)) n w_64 w_65 σ_66 = some (r, u) → PS cp_ft G s σ_66 H locs → lv_has ls 11 [(0, .ref (G.2.2.1 0)), (2, .int a2), (3, .int a3), (4, .int w_64), (5, va_rf (lR σ 0 33 a1)), (6, .int w_65)] → W p l e (rmc 10 10321 (lim - szo σ) (slim - suo σ)) s m args below meth c H locs (szo σ_66 - szo σ) (suo σ_66 - suo σ) Q (F0 m 36 ls []) := by
          intro n
          induction n with
          | zero => intro w_64 w_65 σ_66 H locs ls h; cases h
          | succ n ih =>
            intro w_64 w_65 σ_66 H locs ls h hP hl
            have h : cp_cards_B36 G.2.1 lim slim a2 a3 (lR σ 0 33 a1) (wl3 (cp_cards_B36 G.2.1 lim slim a2 a3 (lR σ 0 33 a1)) n) w_64 w_65 σ_66 = some _ := h
            generalize wl3 (cp_cards_B36 G.2.1 lim slim a2 a3 (lR σ 0 33 a1)) n = rc_67 at h ih
            unfold cp_cards_B36 at h
            refine lv_iload hx hb dX0_cards_36 (lv_at hl 5 rfl) ?_
            refine lv_iload_n hx hb dX0_cards_38 rfl (lv_at hl 2 rfl) ?_
            refine lv_icmp_ge (tgt := 129) hx hb dX0_cards_39 (by decide) (fun c_68 => ?_) (fun c_68 => ?_)
            · have h := it_t h c_68
              refine lv_goto (tgt := 147) hx hb dX0_cards_129 (by decide) ?_
              refine lv_iload hx hb dX0_cards_147 (lv_at hl 3 rfl) ?_
              refine W.widen (k := lim - szo σ) (n := slim - suo σ) (Nat.sub_le_sub_right (lm_in h).1 _) (Nat.sub_le_sub_right (lm_in h).2 _) ?_
              have h := lm_k h
              exact hret _ _ _ _ _ _ dX0_cards_149 (xr_v h) (xr_s h) hP
            · have h := it_f h c_68
              refine lv_aload_n hx hb dX0_cards_42 rfl (lv_at hl 0 rfl) ?_
              refine r_geti X hP 0 cp_c0 lk_0 5 (Nat.le_of_ble_eq_true rfl) q291 cp_f5 dX0_cards_43 ?_
              refine lv_bipush (v := (20 : Int32)) hx hb dX0_cards_46 (by decide) ?_
              refine lv_icmp_ge (tgt := 129) hx hb dX0_cards_48 (by decide) (fun c_69 => ?_) (fun c_69 => ?_)
              · have h := it_t h c_69
                refine lv_goto (tgt := 147) hx hb dX0_cards_129 (by decide) ?_
                refine lv_iload hx hb dX0_cards_147 (lv_at hl 3 rfl) ?_
                refine W.widen (k := lim - szo σ) (n := slim - suo σ) (Nat.sub_le_sub_right (lm_in h).1 _) (Nat.sub_le_sub_right (lm_in h).2 _) ?_
                have h := lm_k h
                exact hret _ _ _ _ _ _ dX0_cards_149 (xr_v h) (xr_s h) hP
              · have h := it_f h c_69
                refine lv_iload_n hx hb dX0_cards_51 rfl (lv_at hl 1 rfl) ?_
                refine lv_iconst (v := (3 : Int32)) hx hb dX0_cards_52 (by decide) ?_
                refine lv_iload hx hb dX0_cards_53 (lv_at hl 5 rfl) ?_
                refine lv_imul hx hb dX0_cards_55 ?_
                refine lv_iadd hx hb dX0_cards_56 ?_
                refine lv_istore (lv' := [(7, .int (a2 + ((3 : Int32) * w_65))), (0, .ref (G.2.2.1 0)), (2, .int a2), (3, .int a3), (4, .int w_64), (5, va_rf (lR σ 0 33 a1)), (6, .int w_65)]) hx hb dX0_cards_57 hl (by decide) rfl (fun ls hl => ?_)
                refine rr_aload hx hb dX0_cards_59 (lv_at hl 5 rfl) ?_
                refine lv_iload hx hb dX0_cards_61 (lv_at hl 0 rfl) ?_
                have hlm_73 := lm_in h
                have h := lm_k h
                refine W.le fun z1 z2 => ?_
                have hr_74 : (szo σ_66 - szo σ) + 1 ≤ lim - szo σ ∧ (suo σ_66 - suo σ) + 8 ≤ slim - suo σ := lim_hb hal hP h0 z1 z2 hlm_73
                rcases nlx_el h with ⟨hn_70, h⟩ | ⟨a_71, ha_72, h⟩
                · rw [hn_70]
                  refine r_nullD (As := [.int (a2 + ((3 : Int32) * w_65))]) (rest := []) X q616 q617 q618 q619 cdX27_at rfl rfl dX0_cards_63 ?_
                  refine r_npe X hal hlt hP hl.1 (Nat.le_of_ble_eq_true rfl) (Nat.le_of_ble_eq_true rfl) (Nat.le_of_ble_eq_true rfl) hr_74.1 hr_74.2 (fun H locs o1 ce hP hce hf hv => ?_)
                  refine r_catch (h := 137) hce hv hf (fun mag => by rw [htab]; exact hf_no X mag q484 (by decide) (by decide) hf ((X.2.2.2 hal).2.2.2.2.2.2.1 _ (List.mem_of_getElem? (i := 0) rfl : ("java/lang/NullPointerException", "java/lang/ClassCastException") ∈ ncl)) (hf_skip (by decide) (hf_hit X mag q568 (by decide) (by decide) hf (X.2.2.1 _ q590 rfl)))) ?_
                  refine lv_astore (lv' := [(5, .ref o1), (7, .int (a2 + ((3 : Int32) * w_65))), (0, .ref (G.2.2.1 0)), (2, .int a2), (3, .int a3), (4, .int w_64), (6, .int w_65)]) hx hb dX0_cards_137 hl (by decide) rfl (fun ls hl => ?_)
                  refine lv_iload hx hb dX0_cards_139 (lv_at hl 5 rfl) ?_
                  refine W.widen (k := lim - szo σ) (n := slim - suo σ) hr_74.1 hr_74.2 ?_
                  exact hret _ _ _ _ _ _ dX0_cards_141 (xr_v h) (xr_g _ h) hP
                · rw [ha_72]
                  obtain ⟨_, e_75, h⟩ := bo_ex h
                  have hlm_76 := lm_in h
                  have h := lm_k h
                  refine W.le fun z1 z2 => ?_
                  have hr_77 : (szo σ_66 - szo σ) + 3 ≤ lim - szo σ ∧ (suo σ_66 - suo σ) + 1210 ≤ slim - suo σ := lim_hb hal hP h0 z1 z2 hlm_76
                  rcases oex_el h with ⟨e_78, h⟩ | h
                  · refine r_callTV (rest := []) X hP (pis_self e_75) lk_16 (mt_X27_at_T l G hal hlt σ_66 a_71 (a2 + ((3 : Int32) * w_65)) e_78) (cwV 1 hts (lw_V q616 q617 q618 q152 q619) rfl rfl rfl ⟨rfl, cdX27_at⟩ ⟨(Nat.le_of_ble_eq_true rfl), (Nat.le_of_ble_eq_true rfl)⟩) rfl hl.1 rfl (Nat.le_of_ble_eq_true rfl) dX0_cards_63 ⟨hr_77.1, hr_77.2⟩ (fun o1 st t H locs hst ht hW1 hq hL => ?_)
                    obtain ⟨ce, hP, hce, hv, hf⟩ := hq.ps hst ht hW1 hP hL
                    refine r_catch (h := 142) hce hv hf (fun mag => by rw [htab]; exact hf_no X mag q484 (by decide) (by decide) hf ((X.2.2.2 hal).2.2.2.2.2.2.1 _ (List.mem_of_getElem? (i := 1) rfl : ("java/lang/ArrayIndexOutOfBoundsException", "java/lang/ClassCastException") ∈ ncl)) (hf_skip (by decide) (hf_no X mag q568 (by decide) (by decide) hf ((X.2.2.2 hal).2.2.2.2.2.2.1 _ (List.mem_of_getElem? (i := 4) rfl : ("java/lang/ArrayIndexOutOfBoundsException", "java/lang/NullPointerException") ∈ ncl)) (hf_skip (by decide) (hf_hit X mag q593 (by decide) (by decide) hf (X.2.2.1 _ q2300 rfl)))))) ?_
                    refine lv_astore (lv' := [(5, .ref o1), (7, .int (a2 + ((3 : Int32) * w_65))), (0, .ref (G.2.2.1 0)), (2, .int a2), (3, .int a3), (4, .int w_64), (6, .int w_65)]) hx hb dX0_cards_142 hl (by decide) rfl (fun ls hl => ?_)
                    refine lv_iload hx hb dX0_cards_144 (lv_at hl 5 rfl) ?_
                    refine W.widen (k := lim - szo σ) (n := slim - suo σ) hr_77.1 hr_77.2 ?_
                    exact hret _ _ _ _ _ _ dX0_cards_146 (xr_v h) (xr_g _ h) hP
                  · have hdone := trivial
                    have hlm_79 := lm_in h
                    have h := lm_k h
                    obtain ⟨a_80, e_81, h⟩ := bo_ex h
                    obtain ⟨r_83, e_82, h⟩ := bo_ex h
                    refine W.le fun z1 z2 => ?_
                    refine r_calllL hal h0 (r_runP (rest := []) X hP (pis_self e_81) lk_16 (mt_X27_at l G σ_66 a_71 (a2 + ((3 : Int32) * w_65)) e_82) (cwV 1 hts (lw_V q616 q617 q618 q152 q619) rfl rfl rfl ⟨rfl, cdX27_at⟩ (rm_lx (f := 0) (lo := 0) (f2 := 10) (lo2 := 10321) rfl rfl rfl rfl (by omega) (by omega))) rfl hl.1 rfl (Nat.le_of_ble_eq_true rfl) dX0_cards_63 (lim_h0 hal hP h0 z1 z2 hlm_79 rfl rfl)) hP (fun H locs hP => ?_)
                    refine lv_l2i hx hb dX0_cards_66 rfl ?_
                    refine lv_istore (lv' := [(8, .int ((r_83).toInt32)), (7, .int (a2 + ((3 : Int32) * w_65))), (0, .ref (G.2.2.1 0)), (2, .int a2), (3, .int a3), (4, .int w_64), (5, va_rf (lR σ 0 33 a1)), (6, .int w_65)]) hx hb dX0_cards_67 hl (by decide) rfl (fun ls hl => ?_)
                    refine rr_aload hx hb dX0_cards_69 (lv_at hl 6 rfl) ?_
                    refine lv_iload hx hb dX0_cards_71 (lv_at hl 1 rfl) ?_
                    refine lv_iconst (v := (1 : Int32)) hx hb dX0_cards_73 (by decide) ?_
                    refine lv_iadd hx hb dX0_cards_74 ?_
                    have hlm_87 := lm_in h
                    have h := lm_k h
                    refine W.le fun z1 z2 => ?_
                    have hr_88 : (szo σ_66 - szo σ) + 1 ≤ lim - szo σ ∧ (suo σ_66 - suo σ) + 8 ≤ slim - suo σ := lim_hb hal hP h0 z1 z2 hlm_87
                    rcases nlx_el h with ⟨hn_84, h⟩ | ⟨a_85, ha_86, h⟩
                    · rw [hn_84]
                      refine r_nullD (As := [.int ((a2 + ((3 : Int32) * w_65)) + (1 : Int32))]) (rest := []) X q616 q617 q618 q619 cdX27_at rfl rfl dX0_cards_75 ?_
                      refine r_npe X hal hlt hP hl.1 (Nat.le_of_ble_eq_true rfl) (Nat.le_of_ble_eq_true rfl) (Nat.le_of_ble_eq_true rfl) hr_88.1 hr_88.2 (fun H locs o1 ce hP hce hf hv => ?_)
                      refine r_catch (h := 137) hce hv hf (fun mag => by rw [htab]; exact hf_no X mag q484 (by decide) (by decide) hf ((X.2.2.2 hal).2.2.2.2.2.2.1 _ (List.mem_of_getElem? (i := 0) rfl : ("java/lang/NullPointerException", "java/lang/ClassCastException") ∈ ncl)) (hf_skip (by decide) (hf_hit X mag q568 (by decide) (by decide) hf (X.2.2.1 _ q590 rfl)))) ?_
                      refine lv_astore (lv' := [(5, .ref o1), (8, .int ((r_83).toInt32)), (7, .int (a2 + ((3 : Int32) * w_65))), (0, .ref (G.2.2.1 0)), (2, .int a2), (3, .int a3), (4, .int w_64), (6, .int w_65)]) hx hb dX0_cards_137 hl (by decide) rfl (fun ls hl => ?_)
                      refine lv_iload hx hb dX0_cards_139 (lv_at hl 6 rfl) ?_
                      refine W.widen (k := lim - szo σ) (n := slim - suo σ) hr_88.1 hr_88.2 ?_
                      exact hret _ _ _ _ _ _ dX0_cards_141 (xr_v h) (xr_g _ h) hP
                    · rw [ha_86]
                      obtain ⟨_, e_89, h⟩ := bo_ex h
                      have hlm_90 := lm_in h
                      have h := lm_k h
                      refine W.le fun z1 z2 => ?_
                      have hr_91 : (szo σ_66 - szo σ) + 3 ≤ lim - szo σ ∧ (suo σ_66 - suo σ) + 1210 ≤ slim - suo σ := lim_hb hal hP h0 z1 z2 hlm_90
                      rcases oex_el h with ⟨e_92, h⟩ | h
                      · refine r_callTV (rest := []) X hP (pis_self e_89) lk_16 (mt_X27_at_T l G hal hlt σ_66 a_85 ((a2 + ((3 : Int32) * w_65)) + (1 : Int32)) e_92) (cwV 1 hts (lw_V q616 q617 q618 q152 q619) rfl rfl rfl ⟨rfl, cdX27_at⟩ ⟨(Nat.le_of_ble_eq_true rfl), (Nat.le_of_ble_eq_true rfl)⟩) rfl hl.1 rfl (Nat.le_of_ble_eq_true rfl) dX0_cards_75 ⟨hr_91.1, hr_91.2⟩ (fun o1 st t H locs hst ht hW1 hq hL => ?_)
                        obtain ⟨ce, hP, hce, hv, hf⟩ := hq.ps hst ht hW1 hP hL
                        refine r_catch (h := 142) hce hv hf (fun mag => by rw [htab]; exact hf_no X mag q484 (by decide) (by decide) hf ((X.2.2.2 hal).2.2.2.2.2.2.1 _ (List.mem_of_getElem? (i := 1) rfl : ("java/lang/ArrayIndexOutOfBoundsException", "java/lang/ClassCastException") ∈ ncl)) (hf_skip (by decide) (hf_no X mag q568 (by decide) (by decide) hf ((X.2.2.2 hal).2.2.2.2.2.2.1 _ (List.mem_of_getElem? (i := 4) rfl : ("java/lang/ArrayIndexOutOfBoundsException", "java/lang/NullPointerException") ∈ ncl)) (hf_skip (by decide) (hf_hit X mag q593 (by decide) (by decide) hf (X.2.2.1 _ q2300 rfl)))))) ?_
                        refine lv_astore (lv' := [(5, .ref o1), (8, .int ((r_83).toInt32)), (7, .int (a2 + ((3 : Int32) * w_65))), (0, .ref (G.2.2.1 0)), (2, .int a2), (3, .int a3), (4, .int w_64), (6, .int w_65)]) hx hb dX0_cards_142 hl (by decide) rfl (fun ls hl => ?_)
                        refine lv_iload hx hb dX0_cards_144 (lv_at hl 6 rfl) ?_
                        refine W.widen (k := lim - szo σ) (n := slim - suo σ) hr_91.1 hr_91.2 ?_
                        exact hret _ _ _ _ _ _ dX0_cards_146 (xr_v h) (xr_g _ h) hP
                      · have hdone := trivial
                        have hlm_93 := lm_in h
                        have h := lm_k h
                        obtain ⟨a_94, e_95, h⟩ := bo_ex h
                        obtain ⟨r_97, e_96, h⟩ := bo_ex h
                        refine W.le fun z1 z2 => ?_
                        refine r_calllL hal h0 (r_runP (rest := []) X hP (pis_self e_95) lk_16 (mt_X27_at l G σ_66 a_85 ((a2 + ((3 : Int32) * w_65)) + (1 : Int32)) e_96) (cwV 1 hts (lw_V q616 q617 q618 q152 q619) rfl rfl rfl ⟨rfl, cdX27_at⟩ (rm_lx (f := 0) (lo := 0) (f2 := 10) (lo2 := 10321) rfl rfl rfl rfl (by omega) (by omega))) rfl hl.1 rfl (Nat.le_of_ble_eq_true rfl) dX0_cards_75 (lim_h0 hal hP h0 z1 z2 hlm_93 rfl rfl)) hP (fun H locs hP => ?_)
                        refine lv_l2i hx hb dX0_cards_78 rfl ?_
                        refine lv_istore (lv' := [(9, .int ((r_97).toInt32)), (8, .int ((r_83).toInt32)), (7, .int (a2 + ((3 : Int32) * w_65))), (0, .ref (G.2.2.1 0)), (2, .int a2), (3, .int a3), (4, .int w_64), (5, va_rf (lR σ 0 33 a1)), (6, .int w_65)]) hx hb dX0_cards_79 hl (by decide) rfl (fun ls hl => ?_)
                        refine rr_aload hx hb dX0_cards_81 (lv_at hl 7 rfl) ?_
                        refine lv_iload hx hb dX0_cards_83 (lv_at hl 2 rfl) ?_
                        refine lv_iconst (v := (2 : Int32)) hx hb dX0_cards_85 (by decide) ?_
                        refine lv_iadd hx hb dX0_cards_86 ?_
                        have hlm_101 := lm_in h
                        have h := lm_k h
                        refine W.le fun z1 z2 => ?_
                        have hr_102 : (szo σ_66 - szo σ) + 1 ≤ lim - szo σ ∧ (suo σ_66 - suo σ) + 8 ≤ slim - suo σ := lim_hb hal hP h0 z1 z2 hlm_101
                        rcases nlx_el h with ⟨hn_98, h⟩ | ⟨a_99, ha_100, h⟩
                        · rw [hn_98]
                          refine r_nullD (As := [.int ((a2 + ((3 : Int32) * w_65)) + (2 : Int32))]) (rest := []) X q616 q617 q618 q619 cdX27_at rfl rfl dX0_cards_87 ?_
                          refine r_npe X hal hlt hP hl.1 (Nat.le_of_ble_eq_true rfl) (Nat.le_of_ble_eq_true rfl) (Nat.le_of_ble_eq_true rfl) hr_102.1 hr_102.2 (fun H locs o1 ce hP hce hf hv => ?_)
                          refine r_catch (h := 137) hce hv hf (fun mag => by rw [htab]; exact hf_no X mag q484 (by decide) (by decide) hf ((X.2.2.2 hal).2.2.2.2.2.2.1 _ (List.mem_of_getElem? (i := 0) rfl : ("java/lang/NullPointerException", "java/lang/ClassCastException") ∈ ncl)) (hf_skip (by decide) (hf_hit X mag q568 (by decide) (by decide) hf (X.2.2.1 _ q590 rfl)))) ?_
                          refine lv_astore (lv' := [(5, .ref o1), (9, .int ((r_97).toInt32)), (8, .int ((r_83).toInt32)), (7, .int (a2 + ((3 : Int32) * w_65))), (0, .ref (G.2.2.1 0)), (2, .int a2), (3, .int a3), (4, .int w_64), (6, .int w_65)]) hx hb dX0_cards_137 hl (by decide) rfl (fun ls hl => ?_)
                          refine lv_iload hx hb dX0_cards_139 (lv_at hl 7 rfl) ?_
                          refine W.widen (k := lim - szo σ) (n := slim - suo σ) hr_102.1 hr_102.2 ?_
                          exact hret _ _ _ _ _ _ dX0_cards_141 (xr_v h) (xr_g _ h) hP
                        · rw [ha_100]
                          obtain ⟨_, e_103, h⟩ := bo_ex h
                          have hlm_104 := lm_in h
                          have h := lm_k h
                          refine W.le fun z1 z2 => ?_
                          have hr_105 : (szo σ_66 - szo σ) + 3 ≤ lim - szo σ ∧ (suo σ_66 - suo σ) + 1210 ≤ slim - suo σ := lim_hb hal hP h0 z1 z2 hlm_104
                          rcases oex_el h with ⟨e_106, h⟩ | h
                          · refine r_callTV (rest := []) X hP (pis_self e_103) lk_16 (mt_X27_at_T l G hal hlt σ_66 a_99 ((a2 + ((3 : Int32) * w_65)) + (2 : Int32)) e_106) (cwV 1 hts (lw_V q616 q617 q618 q152 q619) rfl rfl rfl ⟨rfl, cdX27_at⟩ ⟨(Nat.le_of_ble_eq_true rfl), (Nat.le_of_ble_eq_true rfl)⟩) rfl hl.1 rfl (Nat.le_of_ble_eq_true rfl) dX0_cards_87 ⟨hr_105.1, hr_105.2⟩ (fun o1 st t H locs hst ht hW1 hq hL => ?_)
                            obtain ⟨ce, hP, hce, hv, hf⟩ := hq.ps hst ht hW1 hP hL
                            refine r_catch (h := 142) hce hv hf (fun mag => by rw [htab]; exact hf_no X mag q484 (by decide) (by decide) hf ((X.2.2.2 hal).2.2.2.2.2.2.1 _ (List.mem_of_getElem? (i := 1) rfl : ("java/lang/ArrayIndexOutOfBoundsException", "java/lang/ClassCastException") ∈ ncl)) (hf_skip (by decide) (hf_no X mag q568 (by decide) (by decide) hf ((X.2.2.2 hal).2.2.2.2.2.2.1 _ (List.mem_of_getElem? (i := 4) rfl : ("java/lang/ArrayIndexOutOfBoundsException", "java/lang/NullPointerException") ∈ ncl)) (hf_skip (by decide) (hf_hit X mag q593 (by decide) (by decide) hf (X.2.2.1 _ q2300 rfl)))))) ?_
                            refine lv_astore (lv' := [(5, .ref o1), (9, .int ((r_97).toInt32)), (8, .int ((r_83).toInt32)), (7, .int (a2 + ((3 : Int32) * w_65))), (0, .ref (G.2.2.1 0)), (2, .int a2), (3, .int a3), (4, .int w_64), (6, .int w_65)]) hx hb dX0_cards_142 hl (by decide) rfl (fun ls hl => ?_)
                            refine lv_iload hx hb dX0_cards_144 (lv_at hl 7 rfl) ?_
                            refine W.widen (k := lim - szo σ) (n := slim - suo σ) hr_105.1 hr_105.2 ?_
                            exact hret _ _ _ _ _ _ dX0_cards_146 (xr_v h) (xr_g _ h) hP
                          · have hdone := trivial
                            have hlm_107 := lm_in h
                            have h := lm_k h
                            obtain ⟨a_108, e_109, h⟩ := bo_ex h
                            obtain ⟨r_111, e_110, h⟩ := bo_ex h
                            refine W.le fun z1 z2 => ?_
                            refine r_calllL hal h0 (r_runP (rest := []) X hP (pis_self e_109) lk_16 (mt_X27_at l G σ_66 a_99 ((a2 + ((3 : Int32) * w_65)) + (2 : Int32)) e_110) (cwV 1 hts (lw_V q616 q617 q618 q152 q619) rfl rfl rfl ⟨rfl, cdX27_at⟩ (rm_lx (f := 0) (lo := 0) (f2 := 10) (lo2 := 10321) rfl rfl rfl rfl (by omega) (by omega))) rfl hl.1 rfl (Nat.le_of_ble_eq_true rfl) dX0_cards_87 (lim_h0 hal hP h0 z1 z2 hlm_107 rfl rfl)) hP (fun H locs hP => ?_)
                            refine lv_l2i hx hb dX0_cards_90 rfl ?_
                            refine lv_istore (lv' := [(10, .int ((r_111).toInt32)), (9, .int ((r_97).toInt32)), (8, .int ((r_83).toInt32)), (7, .int (a2 + ((3 : Int32) * w_65))), (0, .ref (G.2.2.1 0)), (2, .int a2), (3, .int a3), (4, .int w_64), (5, va_rf (lR σ 0 33 a1)), (6, .int w_65)]) hx hb dX0_cards_91 hl (by decide) rfl (fun ls hl => ?_)
                            refine lv_aload_n hx hb dX0_cards_93 rfl (lv_at hl 4 rfl) ?_
                            refine lv_iload hx hb dX0_cards_94 (lv_at hl 2 rfl) ?_
                            refine lv_iload hx hb dX0_cards_96 (lv_at hl 1 rfl) ?_
                            refine lv_iload hx hb dX0_cards_98 (lv_at hl 0 rfl) ?_
                            have hlm_112 := lm_in h
                            have h := lm_k h
                            obtain ⟨r_114, e_113, h⟩ := bo_ex h
                            refine W.le fun z1 z2 => ?_
                            refine r_calliL hal h0 (r_runV (rest := []) X hP 0 cp_c0 lk_0 (mt_X0_isCardSo l G σ_66 ((r_83).toInt32) ((r_97).toInt32) ((r_111).toInt32) e_113) (cwV 3 hts (lw_V q448 q450 qs0 q110 q451) rfl rfl rfl ⟨rfl, cdX0_isCardSo⟩ (rm_lx (f := 2) (lo := 43) (f2 := 10) (lo2 := 10321) rfl rfl rfl rfl (by omega) (by omega))) rfl hl.1 rfl (Nat.le_of_ble_eq_true rfl) dX0_cards_100 (lim_h0 hal hP h0 z1 z2 hlm_112 rfl rfl)) hP (fun H locs hP => ?_)
                            refine lv_if_ne (tgt := 109) hx hb dX0_cards_103 (by decide) (fun c_115 => ?_) (fun c_115 => ?_)
                            · have h := it_f h c_115
                              refine lv_aload_n hx hb dX0_cards_109 rfl (lv_at hl 4 rfl) ?_
                              refine lv_iload hx hb dX0_cards_110 (lv_at hl 2 rfl) ?_
                              refine lv_iload hx hb dX0_cards_112 (lv_at hl 1 rfl) ?_
                              refine lv_iload hx hb dX0_cards_114 (lv_at hl 0 rfl) ?_
                              have hlm_116 := lm_in h
                              have h := lm_k h
                              obtain ⟨r_118, σ_119, e_117, h⟩ := bo2_ex h
                              refine W.le fun z1 z2 => ?_
                              refine r_calliL hal h0 (r_runV (rest := []) X hP 0 cp_c0 lk_0 (mt_X0_addCard l G hal σ_66 ((r_83).toInt32) ((r_97).toInt32) ((r_111).toInt32) e_117) (cwV 3 hts (lw_V q456 q458 qs2 q110 q459) rfl rfl rfl ⟨rfl, cdX0_addCard⟩ (rm_lx (f := 2) (lo := 35) (f2 := 10) (lo2 := 10321) rfl rfl rfl rfl (by omega) (by omega))) rfl hl.1 rfl (Nat.le_of_ble_eq_true rfl) dX0_cards_116 (lim_ha hal hP h0 z1 z2 hlm_116 rfl rfl)) hP (fun H locs hP => ?_)
                              refine lv_pop hx hb dX0_cards_119 rfl ?_
                              refine lv_iinc (v := (w_64 + (1 : Int32))) (lv' := [(4, .int (w_64 + (1 : Int32))), (10, .int ((r_111).toInt32)), (9, .int ((r_97).toInt32)), (8, .int ((r_83).toInt32)), (7, .int (a2 + ((3 : Int32) * w_65))), (0, .ref (G.2.2.1 0)), (2, .int a2), (3, .int a3), (5, va_rf (lR σ 0 33 a1)), (6, .int w_65)]) hx hb dX0_cards_120 hl (k := 7) rfl rfl (by decide) rfl (fun ls hl => ?_)
                              refine lv_iinc (v := (w_65 + (1 : Int32))) (lv' := [(6, .int (w_65 + (1 : Int32))), (4, .int (w_64 + (1 : Int32))), (10, .int ((r_111).toInt32)), (9, .int ((r_97).toInt32)), (8, .int ((r_83).toInt32)), (7, .int (a2 + ((3 : Int32) * w_65))), (0, .ref (G.2.2.1 0)), (2, .int a2), (3, .int a3), (5, va_rf (lR σ 0 33 a1))]) hx hb dX0_cards_123 hl (k := 9) rfl rfl (by decide) (by simp [rr_cat]) (fun ls hl => ?_)
                              refine lv_goto (tgt := 36) hx hb dX0_cards_126 (by decide) ?_
                              exact ih _ _ _ _ _ _ h hP (lv_sub hl [6, 7, 8, 1, 9, 0] rfl)
                            · have h := it_t h c_115
                              refine lv_iload hx hb dX0_cards_106 (lv_at hl 7 rfl) ?_
                              refine W.widen (k := lim - szo σ) (n := slim - suo σ) (Nat.sub_le_sub_right (lm_in h).1 _) (Nat.sub_le_sub_right (lm_in h).2 _) ?_
                              have h := lm_k h
                              exact hret _ _ _ _ _ _ dX0_cards_108 (xr_v h) (xr_s h) hP
        exact hL_63 _ _ _ _ _ _ _ h hP (lv_sub hl [3, 5, 6, 2, 1, 0] rfl)
      · refine r_catch (h := 132) hce hv hf (fun mag => by rw [htab]; exact hf_hit X mag q484 (by decide) (by decide) hf (X.2.2.1 _ q546 rfl)) ?_
        refine lv_astore (lv' := [(5, .ref o1), (4, .int (0 : Int32)), (0, .ref (G.2.2.1 0)), (1, .int a1), (2, .int a2), (3, .int a3)]) hx hb dX0_cards_132 hl (by decide) rfl (fun ls hl => ?_)
        refine lv_bipush (v := (-12 : Int32)) hx hb dX0_cards_134 (by decide) ?_
        refine W.widen (k := lim - szo σ) (n := slim - suo σ) hr_10.1 (Nat.le_trans hn1 hr_10.2) ?_
        exact hret _ _ _ _ _ _ dX0_cards_136 (xr_v h) (xr_g _ h) hP
    · have h := it_t h c_8
      refine lv_iconst (v := (-1 : Int32)) hx hb dX0_cards_17 (by decide) ?_
      refine W.widen (k := lim - szo σ) (n := slim - suo σ) (Nat.sub_le_sub_right (lm_in h).1 _) (Nat.sub_le_sub_right (lm_in h).2 _) ?_
      have h := lm_k h
      exact hret _ _ _ _ _ _ dX0_cards_18 (xr_v h) (xr_s h) hP
def cp_cardsT (ks : Nat → ClassId) (σ : ST) (a1 a2 a3 : Int32) : Option (Int32 × ST) := cp_cards ks (szo σ + 30) (suo σ + 1400) σ a1 a2 a3
theorem mt_cardsT (l : Launch) (G : GT) (hal : G.2.2.2.2 = true) (hlt : l.stackTraces = false) (σ : ST) (a1 a2 a3 : Int32) {r : Int32} {u : ST} (h : cp_cardsT G.2.1 σ a1 a2 a3 = some (r, u)) : XI l cp_ft G yX0_cards (wsW_ yX0_cards cX0_cards 11 (some .int) [(22, 108, 132, 130), (109, 129, 132, 130), (22, 108, 137, 132), (109, 129, 137, 132), (22, 108, 142, 134), (109, 129, 142, 134)]) (rmc 10 10321 30 1400) 30 1400 [.ref (G.2.2.1 0), .int a1, .int a2, .int a3] σ (r, u) := by
  have h1 := mt_X0_cards l G (szo σ + 30) (suo σ + 1400) hal hlt σ a1 a2 a3 h
  rw [Nat.add_sub_cancel_left, Nat.add_sub_cancel_left] at h1
  exact h1
