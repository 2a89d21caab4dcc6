set_option maxRecDepth 100000
def tw_fl : List (Nat × Nat) := [(1, 1), (1, 2), (1, 3), (1, 4), (0, 0), (0, 0), (0, 0), (1, 5), (0, 0), (0, 0), (1, 6), (1, 7), (1, 8), (0, 0), (0, 0), (0, 0), (1, 9), (0, 0), (1, 10), (0, 0), (0, 0), (0, 0), (0, 0), (0, 0), (0, 0), (1, 11), (0, 0), (0, 0), (0, 0), (0, 0), (0, 0), (0, 0), (1, 12), (1, 13), (1, 14), (1, 15), (1, 16), (1, 17), (1, 18), (1, 19), (1, 20), (1, 21), (1, 22), (1, 23), (1, 24), (1, 25), (0, 0), (0, 0), (0, 0), (0, 0), (1, 26), (1, 27), (1, 28), (1, 29), (1, 30), (1, 31), (1, 32), (1, 33), (1, 34), (1, 35), (1, 36), (1, 37), (1, 38), (0, 0), (0, 0), (0, 0), (0, 0), (1, 39), (1, 40), (0, 0), (0, 0), (0, 0), (1, 41), (1, 42), (1, 43), (1, 44)]
def tw_ft : List FC := [.inr (0, 3, tw_fl), .inl (0, 0, 42, 0), .inl (0, 1, 40, 0), .inl (0, 2, 40, 0), .inl (0, 3, 40, 0), .inl (0, 7, 10, 0), .inl (0, 10, 20, 0), .inl (0, 11, 20, 0), .inl (0, 12, 20, 0), .inl (0, 16, 120, 0), .inl (0, 18, 120, 0), .inl (0, 25, 8, 0), .inl (0, 32, 10, 0), .inl (0, 33, 10, 0), .inl (0, 34, 10, 0), .inl (0, 35, 20, 0), .inl (0, 36, 20, 0), .inl (0, 37, 6, 0), .inl (0, 38, 6, 0), .inl (0, 39, 200, 0), .inl (0, 40, 200, 0), .inl (0, 41, 200, 0), .inl (0, 42, 200, 0), .inl (0, 43, 200, 0), .inl (0, 44, 200, 0), .inl (0, 45, 200, 0), .inl (0, 50, 10, 0), .inl (0, 51, 200, 0), .inl (0, 52, 200, 0), .inl (0, 53, 200, 0), .inl (0, 54, 200, 0), .inl (0, 55, 200, 0), .inl (0, 56, 200, 0), .inl (0, 57, 200, 0), .inl (0, 58, 6, 0), .inl (0, 59, 6, 0), .inl (0, 60, 20, 0), .inl (0, 61, 20, 0), .inl (0, 62, 10, 0), .inl (0, 67, 50, 0), .inl (0, 68, 24, 0), .inl (0, 72, 6, 0), .inl (0, 73, 6, 0), .inl (0, 74, 360, 2), .inl (0, 75, 60, 2)]
theorem tw_w : ftW tw_ft := by unfold ftW; decide +kernel
theorem tw_c0 : tw_ft[0]? = some (.inr (0, 3, tw_fl)) := rfl
theorem tw_c1 : tw_ft[1]? = some (.inl (0, 0, 42, 0)) := rfl
theorem tw_c2 : tw_ft[2]? = some (.inl (0, 1, 40, 0)) := rfl
theorem tw_c3 : tw_ft[3]? = some (.inl (0, 2, 40, 0)) := rfl
theorem tw_c4 : tw_ft[4]? = some (.inl (0, 3, 40, 0)) := rfl
theorem tw_c5 : tw_ft[5]? = some (.inl (0, 7, 10, 0)) := rfl
theorem tw_c6 : tw_ft[6]? = some (.inl (0, 10, 20, 0)) := rfl
theorem tw_c7 : tw_ft[7]? = some (.inl (0, 11, 20, 0)) := rfl
theorem tw_c8 : tw_ft[8]? = some (.inl (0, 12, 20, 0)) := rfl
theorem tw_c9 : tw_ft[9]? = some (.inl (0, 16, 120, 0)) := rfl
theorem tw_c10 : tw_ft[10]? = some (.inl (0, 18, 120, 0)) := rfl
theorem tw_c11 : tw_ft[11]? = some (.inl (0, 25, 8, 0)) := rfl
theorem tw_c12 : tw_ft[12]? = some (.inl (0, 32, 10, 0)) := rfl
theorem tw_c13 : tw_ft[13]? = some (.inl (0, 33, 10, 0)) := rfl
theorem tw_c14 : tw_ft[14]? = some (.inl (0, 34, 10, 0)) := rfl
theorem tw_c15 : tw_ft[15]? = some (.inl (0, 35, 20, 0)) := rfl
theorem tw_c16 : tw_ft[16]? = some (.inl (0, 36, 20, 0)) := rfl
theorem tw_c17 : tw_ft[17]? = some (.inl (0, 37, 6, 0)) := rfl
theorem tw_c18 : tw_ft[18]? = some (.inl (0, 38, 6, 0)) := rfl
theorem tw_c19 : tw_ft[19]? = some (.inl (0, 39, 200, 0)) := rfl
theorem tw_c20 : tw_ft[20]? = some (.inl (0, 40, 200, 0)) := rfl
theorem tw_c21 : tw_ft[21]? = some (.inl (0, 41, 200, 0)) := rfl
theorem tw_c22 : tw_ft[22]? = some (.inl (0, 42, 200, 0)) := rfl
theorem tw_c23 : tw_ft[23]? = some (.inl (0, 43, 200, 0)) := rfl
theorem tw_c24 : tw_ft[24]? = some (.inl (0, 44, 200, 0)) := rfl
theorem tw_c25 : tw_ft[25]? = some (.inl (0, 45, 200, 0)) := rfl
theorem tw_c26 : tw_ft[26]? = some (.inl (0, 50, 10, 0)) := rfl
theorem tw_c27 : tw_ft[27]? = some (.inl (0, 51, 200, 0)) := rfl
theorem tw_c28 : tw_ft[28]? = some (.inl (0, 52, 200, 0)) := rfl
theorem tw_c29 : tw_ft[29]? = some (.inl (0, 53, 200, 0)) := rfl
theorem tw_c30 : tw_ft[30]? = some (.inl (0, 54, 200, 0)) := rfl
theorem tw_c31 : tw_ft[31]? = some (.inl (0, 55, 200, 0)) := rfl
theorem tw_c32 : tw_ft[32]? = some (.inl (0, 56, 200, 0)) := rfl
theorem tw_c33 : tw_ft[33]? = some (.inl (0, 57, 200, 0)) := rfl
theorem tw_c34 : tw_ft[34]? = some (.inl (0, 58, 6, 0)) := rfl
theorem tw_c35 : tw_ft[35]? = some (.inl (0, 59, 6, 0)) := rfl
theorem tw_c36 : tw_ft[36]? = some (.inl (0, 60, 20, 0)) := rfl
theorem tw_c37 : tw_ft[37]? = some (.inl (0, 61, 20, 0)) := rfl
theorem tw_c38 : tw_ft[38]? = some (.inl (0, 62, 10, 0)) := rfl
theorem tw_c39 : tw_ft[39]? = some (.inl (0, 67, 50, 0)) := rfl
theorem tw_c40 : tw_ft[40]? = some (.inl (0, 68, 24, 0)) := rfl
theorem tw_c41 : tw_ft[41]? = some (.inl (0, 72, 6, 0)) := rfl
theorem tw_c42 : tw_ft[42]? = some (.inl (0, 73, 6, 0)) := rfl
theorem tw_c43 : tw_ft[43]? = some (.inl (0, 74, 360, 2)) := rfl
theorem tw_c44 : tw_ft[44]? = some (.inl (0, 75, 60, 2)) := rfl
theorem tw_f0 : tw_fl[0]? = some (1, 1) := rfl
theorem tw_f1 : tw_fl[1]? = some (1, 2) := rfl
theorem tw_f2 : tw_fl[2]? = some (1, 3) := rfl
theorem tw_f3 : tw_fl[3]? = some (1, 4) := rfl
theorem tw_f4 : tw_fl[4]? = some (0, 0) := rfl
theorem tw_f5 : tw_fl[5]? = some (0, 0) := rfl
theorem tw_f6 : tw_fl[6]? = some (0, 0) := rfl
theorem tw_f7 : tw_fl[7]? = some (1, 5) := rfl
theorem tw_f8 : tw_fl[8]? = some (0, 0) := rfl
theorem tw_f9 : tw_fl[9]? = some (0, 0) := rfl
theorem tw_f10 : tw_fl[10]? = some (1, 6) := rfl
theorem tw_f11 : tw_fl[11]? = some (1, 7) := rfl
theorem tw_f12 : tw_fl[12]? = some (1, 8) := rfl
theorem tw_f13 : tw_fl[13]? = some (0, 0) := rfl
theorem tw_f14 : tw_fl[14]? = some (0, 0) := rfl
theorem tw_f15 : tw_fl[15]? = some (0, 0) := rfl
theorem tw_f16 : tw_fl[16]? = some (1, 9) := rfl
theorem tw_f17 : tw_fl[17]? = some (0, 0) := rfl
theorem tw_f18 : tw_fl[18]? = some (1, 10) := rfl
theorem tw_f19 : tw_fl[19]? = some (0, 0) := rfl
theorem tw_f20 : tw_fl[20]? = some (0, 0) := rfl
theorem tw_f21 : tw_fl[21]? = some (0, 0) := rfl
theorem tw_f22 : tw_fl[22]? = some (0, 0) := rfl
theorem tw_f23 : tw_fl[23]? = some (0, 0) := rfl
theorem tw_f24 : tw_fl[24]? = some (0, 0) := rfl
theorem tw_f25 : tw_fl[25]? = some (1, 11) := rfl
theorem tw_f26 : tw_fl[26]? = some (0, 0) := rfl
theorem tw_f27 : tw_fl[27]? = some (0, 0) := rfl
theorem tw_f28 : tw_fl[28]? = some (0, 0) := rfl
theorem tw_f29 : tw_fl[29]? = some (0, 0) := rfl
theorem tw_f30 : tw_fl[30]? = some (0, 0) := rfl
theorem tw_f31 : tw_fl[31]? = some (0, 0) := rfl
theorem tw_f32 : tw_fl[32]? = some (1, 12) := rfl
theorem tw_f33 : tw_fl[33]? = some (1, 13) := rfl
theorem tw_f34 : tw_fl[34]? = some (1, 14) := rfl
theorem tw_f35 : tw_fl[35]? = some (1, 15) := rfl
theorem tw_f36 : tw_fl[36]? = some (1, 16) := rfl
theorem tw_f37 : tw_fl[37]? = some (1, 17) := rfl
theorem tw_f38 : tw_fl[38]? = some (1, 18) := rfl
theorem tw_f39 : tw_fl[39]? = some (1, 19) := rfl
theorem tw_f40 : tw_fl[40]? = some (1, 20) := rfl
theorem tw_f41 : tw_fl[41]? = some (1, 21) := rfl
theorem tw_f42 : tw_fl[42]? = some (1, 22) := rfl
theorem tw_f43 : tw_fl[43]? = some (1, 23) := rfl
theorem tw_f44 : tw_fl[44]? = some (1, 24) := rfl
theorem tw_f45 : tw_fl[45]? = some (1, 25) := rfl
theorem tw_f46 : tw_fl[46]? = some (0, 0) := rfl
theorem tw_f47 : tw_fl[47]? = some (0, 0) := rfl
theorem tw_f48 : tw_fl[48]? = some (0, 0) := rfl
theorem tw_f49 : tw_fl[49]? = some (0, 0) := rfl
theorem tw_f50 : tw_fl[50]? = some (1, 26) := rfl
theorem tw_f51 : tw_fl[51]? = some (1, 27) := rfl
theorem tw_f52 : tw_fl[52]? = some (1, 28) := rfl
theorem tw_f53 : tw_fl[53]? = some (1, 29) := rfl
theorem tw_f54 : tw_fl[54]? = some (1, 30) := rfl
theorem tw_f55 : tw_fl[55]? = some (1, 31) := rfl
theorem tw_f56 : tw_fl[56]? = some (1, 32) := rfl
theorem tw_f57 : tw_fl[57]? = some (1, 33) := rfl
theorem tw_f58 : tw_fl[58]? = some (1, 34) := rfl
theorem tw_f59 : tw_fl[59]? = some (1, 35) := rfl
theorem tw_f60 : tw_fl[60]? = some (1, 36) := rfl
theorem tw_f61 : tw_fl[61]? = some (1, 37) := rfl
theorem tw_f62 : tw_fl[62]? = some (1, 38) := rfl
theorem tw_f63 : tw_fl[63]? = some (0, 0) := rfl
theorem tw_f64 : tw_fl[64]? = some (0, 0) := rfl
theorem tw_f65 : tw_fl[65]? = some (0, 0) := rfl
theorem tw_f66 : tw_fl[66]? = some (0, 0) := rfl
theorem tw_f67 : tw_fl[67]? = some (1, 39) := rfl
theorem tw_f68 : tw_fl[68]? = some (1, 40) := rfl
theorem tw_f69 : tw_fl[69]? = some (0, 0) := rfl
theorem tw_f70 : tw_fl[70]? = some (0, 0) := rfl
theorem tw_f71 : tw_fl[71]? = some (0, 0) := rfl
theorem tw_f72 : tw_fl[72]? = some (1, 41) := rfl
theorem tw_f73 : tw_fl[73]? = some (1, 42) := rfl
theorem tw_f74 : tw_fl[74]? = some (1, 43) := rfl
theorem tw_f75 : tw_fl[75]? = some (1, 44) := rfl
def tw_byteAt (σ : ST)  : Option Int32 :=
  (if (gI σ 0 22) ≤ (gI σ 0 21) then some (0 : Int32) else (if 0 ≤ (gI σ 0 20) then ck ((gI σ 0 20) + (gI σ 0 21)) 120 (some (lI σ 0 18 ((gI σ 0 20) + (gI σ 0 21)))) else ck (gI σ 0 21) 120 (some (lI σ 0 16 (gI σ 0 21)))))
abbrev rm_X3_byteAt : Room := rmf 0 0
set_option maxHeartbeats 4000000 in
set_option maxRecDepth 100000 in
theorem mt_X3_byteAt (l : Launch) (G : GT) (σ : ST)  {r : Int32} (h : tw_byteAt σ = some r) : CI l tw_ft G yX3_byteAt (ws_ yX3_byteAt cX3_byteAt 1 (some .int)) rm_X3_byteAt 0 0 [.ref (G.2.2.1 0)] σ (r, σ) := by
  refine m_enterI (by decide) rfl (lv := [(0, .ref (G.2.2.1 0))]) rfl ?_
  intro p e s m args below meth c H locs ls Q X hret hP hl
  have hx := X.1.1
  have hb := X.1.2.1
  have hown := X.1.2.2.2.1
  have hts := X.1.2.2.2.2
  unfold tw_byteAt at h
  refine lv_aload_n hx hb dX3_byteAt_0 rfl (lv_at hl 0 rfl) ?_
  refine r_geti X hP 0 tw_c0 lk_3 21 (Nat.le_of_ble_eq_true rfl) q1659 tw_f21 dX3_byteAt_1 ?_
  refine lv_aload_n hx hb dX3_byteAt_4 rfl (lv_at hl 0 rfl) ?_
  refine r_geti X hP 0 tw_c0 lk_3 22 (Nat.le_of_ble_eq_true rfl) q1660 tw_f22 dX3_byteAt_5 ?_
  refine lv_icmp_ge (tgt := 47) hx hb dX3_byteAt_8 (by decide) (fun c_1 => ?_) (fun c_1 => ?_)
  · have h := it_t h c_1
    refine lv_iconst (v := (0 : Int32)) hx hb dX3_byteAt_47 (by decide) ?_
    exact hret _ _ _ _ _ _ dX3_byteAt_48 rfl (congrArg (fun z9 => (z9, σ)) (Option.some.inj h)) hP
  · have h := it_f h c_1
    refine lv_aload_n hx hb dX3_byteAt_11 rfl (lv_at hl 0 rfl) ?_
    refine r_geti X hP 0 tw_c0 lk_3 20 (Nat.le_of_ble_eq_true rfl) q1658 tw_f20 dX3_byteAt_12 ?_
    refine lv_if_ge (tgt := 30) hx hb dX3_byteAt_15 (by decide) (fun c_2 => ?_) (fun c_2 => ?_)
    · have h := it_t h c_2
      refine lv_aload_n hx hb dX3_byteAt_30 rfl (lv_at hl 0 rfl) ?_
      refine r_geta X hP 0 tw_c0 lk_3 18 (Nat.le_of_ble_eq_true rfl) q1656 tw_f18 dX3_byteAt_31 ?_
      refine lv_aload_n hx hb dX3_byteAt_34 rfl (lv_at hl 0 rfl) ?_
      refine r_geti X hP 0 tw_c0 lk_3 20 (Nat.le_of_ble_eq_true rfl) q1658 tw_f20 dX3_byteAt_35 ?_
      refine lv_aload_n hx hb dX3_byteAt_38 rfl (lv_at hl 0 rfl) ?_
      refine r_geti X hP 0 tw_c0 lk_3 21 (Nat.le_of_ble_eq_true rfl) q1659 tw_f21 dX3_byteAt_39 ?_
      refine lv_iadd hx hb dX3_byteAt_42 ?_
      refine r_iald X hP 10 tw_c10 (ck_in h) dX3_byteAt_43 ?_
      have h := ck_k h
      refine lv_goto (tgt := 48) hx hb dX3_byteAt_44 (by decide) ?_
      exact hret _ _ _ _ _ _ dX3_byteAt_48 rfl (congrArg (fun z9 => (z9, σ)) (Option.some.inj h)) hP
    · have h := it_f h c_2
      refine lv_aload_n hx hb dX3_byteAt_18 rfl (lv_at hl 0 rfl) ?_
      refine r_geta X hP 0 tw_c0 lk_3 16 (Nat.le_of_ble_eq_true rfl) q1654 tw_f16 dX3_byteAt_19 ?_
      refine lv_aload_n hx hb dX3_byteAt_22 rfl (lv_at hl 0 rfl) ?_
      refine r_geti X hP 0 tw_c0 lk_3 21 (Nat.le_of_ble_eq_true rfl) q1659 tw_f21 dX3_byteAt_23 ?_
      refine r_iald X hP 9 tw_c9 (ck_in h) dX3_byteAt_26 ?_
      have h := ck_k h
      refine lv_goto (tgt := 48) hx hb dX3_byteAt_27 (by decide) ?_
      exact hret _ _ _ _ _ _ dX3_byteAt_48 rfl (congrArg (fun z9 => (z9, σ)) (Option.some.inj h)) hP
def tw_wrong (σ : ST)  : Option (Int32 × ST) :=
  (if 0 ≤ (gI σ 0 23) then st_ (pI σ 0 23 (gI σ 0 23)) (fun (σ_2 : ST) => some ((0 : Int32), σ_2)) else st_ (pI σ 0 23 (gI σ 0 21)) (fun (σ_4 : ST) => some ((0 : Int32), σ_4)))
abbrev rm_X3_wrong : Room := rmf 0 0
set_option maxHeartbeats 4000000 in
set_option maxRecDepth 100000 in
theorem mt_X3_wrong (l : Launch) (G : GT) (σ : ST)  {r : Int32} {u : ST} (h : tw_wrong σ = some (r, u)) : CI l tw_ft G yX3_wrong (ws_ yX3_wrong cX3_wrong 1 (some .int)) rm_X3_wrong 0 0 [.ref (G.2.2.1 0)] σ (r, u) := by
  refine m_enterI (by decide) rfl (lv := [(0, .ref (G.2.2.1 0))]) rfl ?_
  intro p e s m args below meth c H locs ls Q X hret hP hl
  have hx := X.1.1
  have hb := X.1.2.1
  have hown := X.1.2.2.2.1
  have hts := X.1.2.2.2.2
  unfold tw_wrong at h
  refine lv_aload_n hx hb dX3_wrong_0 rfl (lv_at hl 0 rfl) ?_
  refine lv_aload_n hx hb dX3_wrong_1 rfl (lv_at hl 0 rfl) ?_
  refine r_geti X hP 0 tw_c0 lk_3 23 (Nat.le_of_ble_eq_true rfl) q1661 tw_f23 dX3_wrong_2 ?_
  refine lv_if_ge (tgt := 15) hx hb dX3_wrong_5 (by decide) (fun c_1 => ?_) (fun c_1 => ?_)
  · have h := it_t h c_1
    refine lv_aload_n hx hb dX3_wrong_15 rfl (lv_at hl 0 rfl) ?_
    refine r_geti X hP 0 tw_c0 lk_3 23 (Nat.le_of_ble_eq_true rfl) q1661 tw_f23 dX3_wrong_16 ?_
    refine r_puti X tw_w hP 0 tw_c0 lk_3 23 (Nat.le_of_ble_eq_true rfl) q1661 tw_f23 rfl (tyX3_ok 23 (by decide)) rfl rfl dX3_wrong_19 (fun σ_2 H locs e_3 hP => ?_)
    have h := st_k h e_3
    refine lv_iconst (v := (0 : Int32)) hx hb dX3_wrong_22 (by decide) ?_
    exact hret _ _ _ _ _ _ dX3_wrong_23 rfl (Option.some.inj h) hP
  · have h := it_f h c_1
    refine lv_aload_n hx hb dX3_wrong_8 rfl (lv_at hl 0 rfl) ?_
    refine r_geti X hP 0 tw_c0 lk_3 21 (Nat.le_of_ble_eq_true rfl) q1659 tw_f21 dX3_wrong_9 ?_
    refine lv_goto (tgt := 19) hx hb dX3_wrong_12 (by decide) ?_
    refine r_puti X tw_w hP 0 tw_c0 lk_3 23 (Nat.le_of_ble_eq_true rfl) q1661 tw_f23 rfl (tyX3_ok 23 (by decide)) rfl rfl dX3_wrong_19 (fun σ_4 H locs e_5 hP => ?_)
    have h := st_k h e_5
    refine lv_iconst (v := (0 : Int32)) hx hb dX3_wrong_22 (by decide) ?_
    exact hret _ _ _ _ _ _ dX3_wrong_23 rfl (Option.some.inj h) hP
def tw_takes (σ : ST) (a1 : Int32) : Option (Int32 × ST) :=
  (if 0 ≤ (gI σ 0 23) then some ((0 : Int32), σ) else bo (tw_byteAt σ) (fun (r_3 : Int32) => (if r_3 = a1 then st_ (pI σ 0 21 ((gI σ 0 21) + (1 : Int32))) (fun (σ_5 : ST) => some ((1 : Int32), σ_5)) else some ((0 : Int32), σ))))
abbrev rm_X3_takes : Room := rmf 1 20
set_option maxHeartbeats 4000000 in
set_option maxRecDepth 100000 in
theorem mt_X3_takes (l : Launch) (G : GT) (σ : ST) (a1 : Int32) {r : Int32} {u : ST} (h : tw_takes σ a1 = some (r, u)) : CI l tw_ft G yX3_takes (ws_ yX3_takes cX3_takes 2 (some .boolean)) rm_X3_takes 0 0 [.ref (G.2.2.1 0), .int a1] σ (r, u) := by
  refine m_enterI (by decide) rfl (lv := [(0, .ref (G.2.2.1 0)), (1, .int a1)]) rfl ?_
  intro p e s m args below meth c H locs ls Q X hret hP hl
  have hx := X.1.1
  have hb := X.1.2.1
  have hown := X.1.2.2.2.1
  have hts := X.1.2.2.2.2
  unfold tw_takes at h
  refine lv_aload_n hx hb dX3_takes_0 rfl (lv_at hl 0 rfl) ?_
  refine r_geti X hP 0 tw_c0 lk_3 23 (Nat.le_of_ble_eq_true rfl) q1661 tw_f23 dX3_takes_1 ?_
  refine lv_if_ge (tgt := 15) hx hb dX3_takes_4 (by decide) (fun c_1 => ?_) (fun c_1 => ?_)
  · have h := it_t h c_1
    refine lv_iconst (v := (0 : Int32)) hx hb dX3_takes_15 (by decide) ?_
    exact hret _ _ _ _ _ _ dX3_takes_16 rfl (Option.some.inj h) hP
  · have h := it_f h c_1
    refine lv_aload_n hx hb dX3_takes_7 rfl (lv_at hl 0 rfl) ?_
    obtain ⟨r_3, e_2, h⟩ := bo_ex h
    refine r_calli (r_runV (rest := []) X hP 0 tw_c0 lk_3 (mt_X3_byteAt l G σ e_2) (cwV 0 hts (lw_V q1985 q1987 qs62 q113 q1988) rfl rfl rfl ⟨rfl, cdX3_byteAt⟩ ⟨Nat.le_of_ble_eq_true rfl, Nat.le_of_ble_eq_true rfl⟩) rfl hl.1 rfl (Nat.le_of_ble_eq_true rfl) dX3_takes_8 ⟨Nat.le_refl _, Nat.le_refl _⟩) hP (fun H locs hP => ?_)
    refine lv_iload_n hx hb dX3_takes_11 rfl (lv_at hl 1 rfl) ?_
    refine lv_icmp_eq (tgt := 17) hx hb dX3_takes_12 (by decide) (fun c_4 => ?_) (fun c_4 => ?_)
    · have h := it_t h c_4
      refine lv_aload_n hx hb dX3_takes_17 rfl (lv_at hl 0 rfl) ?_
      refine lv_dup hx hb dX3_takes_18 rfl ?_
      refine r_geti X hP 0 tw_c0 lk_3 21 (Nat.le_of_ble_eq_true rfl) q1659 tw_f21 dX3_takes_19 ?_
      refine lv_iconst (v := (1 : Int32)) hx hb dX3_takes_22 (by decide) ?_
      refine lv_iadd hx hb dX3_takes_23 ?_
      refine r_puti X tw_w hP 0 tw_c0 lk_3 21 (Nat.le_of_ble_eq_true rfl) q1659 tw_f21 rfl (tyX3_ok 21 (by decide)) rfl rfl dX3_takes_24 (fun σ_5 H locs e_6 hP => ?_)
      have h := st_k h e_6
      refine lv_iconst (v := (1 : Int32)) hx hb dX3_takes_27 (by decide) ?_
      exact hret _ _ _ _ _ _ dX3_takes_28 rfl (Option.some.inj h) hP
    · have h := it_f h c_4
      refine lv_iconst (v := (0 : Int32)) hx hb dX3_takes_15 (by decide) ?_
      exact hret _ _ _ _ _ _ dX3_takes_16 rfl (Option.some.inj h) hP
def tw_nameOf (a0 : Int32) : Option Int32 :=
  (if a0 = (101 : Int32) then some (2 : Int32) else (if a0 = (102 : Int32) then some (-1 : Int32) else (if a0 = (103 : Int32) then some (-1 : Int32) else (if a0 = (104 : Int32) then some (-1 : Int32) else (if a0 = (105 : Int32) then some (-1 : Int32) else (if a0 = (106 : Int32) then some (-1 : Int32) else (if a0 = (107 : Int32) then some (-1 : Int32) else (if a0 = (108 : Int32) then some (7 : Int32) else (if a0 = (109 : Int32) then some (-1 : Int32) else (if a0 = (110 : Int32) then some (3 : Int32) else (if a0 = (111 : Int32) then some (-1 : Int32) else (if a0 = (112 : Int32) then some (6 : Int32) else (if a0 = (113 : Int32) then some (-1 : Int32) else (if a0 = (114 : Int32) then some (0 : Int32) else (if a0 = (115 : Int32) then some (4 : Int32) else (if a0 = (116 : Int32) then some (5 : Int32) else (if a0 = (117 : Int32) then some (-1 : Int32) else (if a0 = (118 : Int32) then some (1 : Int32) else some (-1 : Int32)))))))))))))))))))
abbrev rm_X3_nameOf : Room := rmf 0 0
set_option maxHeartbeats 4000000 in
set_option maxRecDepth 100000 in
theorem mt_X3_nameOf (l : Launch) (G : GT) (σ : ST) (a0 : Int32) {r : Int32} (h : tw_nameOf a0 = some r) : CI l tw_ft G yX3_nameOf (ws_ yX3_nameOf cX3_nameOf 1 (some .int)) rm_X3_nameOf 0 0 [.int a0] σ (r, σ) := by
  refine m_enterI (by decide) rfl (lv := [(0, .int a0)]) rfl ?_
  intro p e s m args below meth c H locs ls Q X hret hP hl
  have hx := X.1.1
  have hb := X.1.2.1
  have hown := X.1.2.2.2.1
  have hts := X.1.2.2.2.2
  unfold tw_nameOf at h
  refine lv_iload_n hx hb dX3_nameOf_0 rfl (lv_at hl 0 rfl) ?_
  by_cases c_1 : a0 = (101 : Int32)
  · have h := it_t h c_1
    refine lv_tableIn (tgt := 92) hx hb dX3_nameOf_1 (by rw [c_1]; decide) (by rw [c_1]; decide) (by rw [c_1]; rfl) (by decide) ?_
    refine lv_iconst (v := (2 : Int32)) hx hb dX3_nameOf_92 (by decide) ?_
    exact hret _ _ _ _ _ _ dX3_nameOf_93 rfl (congrArg (fun z9 => (z9, σ)) (Option.some.inj h)) hP
  · have h := it_f h c_1
    by_cases c_2 : a0 = (102 : Int32)
    · have h := it_t h c_2
      refine lv_tableIn (tgt := 106) hx hb dX3_nameOf_1 (by rw [c_2]; decide) (by rw [c_2]; decide) (by rw [c_2]; rfl) (by decide) ?_
      refine lv_iconst (v := (-1 : Int32)) hx hb dX3_nameOf_106 (by decide) ?_
      exact hret _ _ _ _ _ _ dX3_nameOf_107 rfl (congrArg (fun z9 => (z9, σ)) (Option.some.inj h)) hP
    · have h := it_f h c_2
      by_cases c_3 : a0 = (103 : Int32)
      · have h := it_t h c_3
        refine lv_tableIn (tgt := 106) hx hb dX3_nameOf_1 (by rw [c_3]; decide) (by rw [c_3]; decide) (by rw [c_3]; rfl) (by decide) ?_
        refine lv_iconst (v := (-1 : Int32)) hx hb dX3_nameOf_106 (by decide) ?_
        exact hret _ _ _ _ _ _ dX3_nameOf_107 rfl (congrArg (fun z9 => (z9, σ)) (Option.some.inj h)) hP
      · have h := it_f h c_3
        by_cases c_4 : a0 = (104 : Int32)
        · have h := it_t h c_4
          refine lv_tableIn (tgt := 106) hx hb dX3_nameOf_1 (by rw [c_4]; decide) (by rw [c_4]; decide) (by rw [c_4]; rfl) (by decide) ?_
          refine lv_iconst (v := (-1 : Int32)) hx hb dX3_nameOf_106 (by decide) ?_
          exact hret _ _ _ _ _ _ dX3_nameOf_107 rfl (congrArg (fun z9 => (z9, σ)) (Option.some.inj h)) hP
        · have h := it_f h c_4
          by_cases c_5 : a0 = (105 : Int32)
          · have h := it_t h c_5
            refine lv_tableIn (tgt := 106) hx hb dX3_nameOf_1 (by rw [c_5]; decide) (by rw [c_5]; decide) (by rw [c_5]; rfl) (by decide) ?_
            refine lv_iconst (v := (-1 : Int32)) hx hb dX3_nameOf_106 (by decide) ?_
            exact hret _ _ _ _ _ _ dX3_nameOf_107 rfl (congrArg (fun z9 => (z9, σ)) (Option.some.inj h)) hP
          · have h := it_f h c_5
            by_cases c_6 : a0 = (106 : Int32)
            · have h := it_t h c_6
              refine lv_tableIn (tgt := 106) hx hb dX3_nameOf_1 (by rw [c_6]; decide) (by rw [c_6]; decide) (by rw [c_6]; rfl) (by decide) ?_
              refine lv_iconst (v := (-1 : Int32)) hx hb dX3_nameOf_106 (by decide) ?_
              exact hret _ _ _ _ _ _ dX3_nameOf_107 rfl (congrArg (fun z9 => (z9, σ)) (Option.some.inj h)) hP
            · have h := it_f h c_6
              by_cases c_7 : a0 = (107 : Int32)
              · have h := it_t h c_7
                refine lv_tableIn (tgt := 106) hx hb dX3_nameOf_1 (by rw [c_7]; decide) (by rw [c_7]; decide) (by rw [c_7]; rfl) (by decide) ?_
                refine lv_iconst (v := (-1 : Int32)) hx hb dX3_nameOf_106 (by decide) ?_
                exact hret _ _ _ _ _ _ dX3_nameOf_107 rfl (congrArg (fun z9 => (z9, σ)) (Option.some.inj h)) hP
              · have h := it_f h c_7
                by_cases c_8 : a0 = (108 : Int32)
                · have h := it_t h c_8
                  refine lv_tableIn (tgt := 103) hx hb dX3_nameOf_1 (by rw [c_8]; decide) (by rw [c_8]; decide) (by rw [c_8]; rfl) (by decide) ?_
                  refine lv_bipush (v := (7 : Int32)) hx hb dX3_nameOf_103 (by decide) ?_
                  exact hret _ _ _ _ _ _ dX3_nameOf_105 rfl (congrArg (fun z9 => (z9, σ)) (Option.some.inj h)) hP
                · have h := it_f h c_8
                  by_cases c_9 : a0 = (109 : Int32)
                  · have h := it_t h c_9
                    refine lv_tableIn (tgt := 106) hx hb dX3_nameOf_1 (by rw [c_9]; decide) (by rw [c_9]; decide) (by rw [c_9]; rfl) (by decide) ?_
                    refine lv_iconst (v := (-1 : Int32)) hx hb dX3_nameOf_106 (by decide) ?_
                    exact hret _ _ _ _ _ _ dX3_nameOf_107 rfl (congrArg (fun z9 => (z9, σ)) (Option.some.inj h)) hP
                  · have h := it_f h c_9
                    by_cases c_10 : a0 = (110 : Int32)
                    · have h := it_t h c_10
                      refine lv_tableIn (tgt := 94) hx hb dX3_nameOf_1 (by rw [c_10]; decide) (by rw [c_10]; decide) (by rw [c_10]; rfl) (by decide) ?_
                      refine lv_iconst (v := (3 : Int32)) hx hb dX3_nameOf_94 (by decide) ?_
                      exact hret _ _ _ _ _ _ dX3_nameOf_95 rfl (congrArg (fun z9 => (z9, σ)) (Option.some.inj h)) hP
                    · have h := it_f h c_10
                      by_cases c_11 : a0 = (111 : Int32)
                      · have h := it_t h c_11
                        refine lv_tableIn (tgt := 106) hx hb dX3_nameOf_1 (by rw [c_11]; decide) (by rw [c_11]; decide) (by rw [c_11]; rfl) (by decide) ?_
                        refine lv_iconst (v := (-1 : Int32)) hx hb dX3_nameOf_106 (by decide) ?_
                        exact hret _ _ _ _ _ _ dX3_nameOf_107 rfl (congrArg (fun z9 => (z9, σ)) (Option.some.inj h)) hP
                      · have h := it_f h c_11
                        by_cases c_12 : a0 = (112 : Int32)
                        · have h := it_t h c_12
                          refine lv_tableIn (tgt := 100) hx hb dX3_nameOf_1 (by rw [c_12]; decide) (by rw [c_12]; decide) (by rw [c_12]; rfl) (by decide) ?_
                          refine lv_bipush (v := (6 : Int32)) hx hb dX3_nameOf_100 (by decide) ?_
                          exact hret _ _ _ _ _ _ dX3_nameOf_102 rfl (congrArg (fun z9 => (z9, σ)) (Option.some.inj h)) hP
                        · have h := it_f h c_12
                          by_cases c_13 : a0 = (113 : Int32)
                          · have h := it_t h c_13
                            refine lv_tableIn (tgt := 106) hx hb dX3_nameOf_1 (by rw [c_13]; decide) (by rw [c_13]; decide) (by rw [c_13]; rfl) (by decide) ?_
                            refine lv_iconst (v := (-1 : Int32)) hx hb dX3_nameOf_106 (by decide) ?_
                            exact hret _ _ _ _ _ _ dX3_nameOf_107 rfl (congrArg (fun z9 => (z9, σ)) (Option.some.inj h)) hP
                          · have h := it_f h c_13
                            by_cases c_14 : a0 = (114 : Int32)
                            · have h := it_t h c_14
                              refine lv_tableIn (tgt := 88) hx hb dX3_nameOf_1 (by rw [c_14]; decide) (by rw [c_14]; decide) (by rw [c_14]; rfl) (by decide) ?_
                              refine lv_iconst (v := (0 : Int32)) hx hb dX3_nameOf_88 (by decide) ?_
                              exact hret _ _ _ _ _ _ dX3_nameOf_89 rfl (congrArg (fun z9 => (z9, σ)) (Option.some.inj h)) hP
                            · have h := it_f h c_14
                              by_cases c_15 : a0 = (115 : Int32)
                              · have h := it_t h c_15
                                refine lv_tableIn (tgt := 96) hx hb dX3_nameOf_1 (by rw [c_15]; decide) (by rw [c_15]; decide) (by rw [c_15]; rfl) (by decide) ?_
                                refine lv_iconst (v := (4 : Int32)) hx hb dX3_nameOf_96 (by decide) ?_
                                exact hret _ _ _ _ _ _ dX3_nameOf_97 rfl (congrArg (fun z9 => (z9, σ)) (Option.some.inj h)) hP
                              · have h := it_f h c_15
                                by_cases c_16 : a0 = (116 : Int32)
                                · have h := it_t h c_16
                                  refine lv_tableIn (tgt := 98) hx hb dX3_nameOf_1 (by rw [c_16]; decide) (by rw [c_16]; decide) (by rw [c_16]; rfl) (by decide) ?_
                                  refine lv_iconst (v := (5 : Int32)) hx hb dX3_nameOf_98 (by decide) ?_
                                  exact hret _ _ _ _ _ _ dX3_nameOf_99 rfl (congrArg (fun z9 => (z9, σ)) (Option.some.inj h)) hP
                                · have h := it_f h c_16
                                  by_cases c_17 : a0 = (117 : Int32)
                                  · have h := it_t h c_17
                                    refine lv_tableIn (tgt := 106) hx hb dX3_nameOf_1 (by rw [c_17]; decide) (by rw [c_17]; decide) (by rw [c_17]; rfl) (by decide) ?_
                                    refine lv_iconst (v := (-1 : Int32)) hx hb dX3_nameOf_106 (by decide) ?_
                                    exact hret _ _ _ _ _ _ dX3_nameOf_107 rfl (congrArg (fun z9 => (z9, σ)) (Option.some.inj h)) hP
                                  · have h := it_f h c_17
                                    by_cases c_18 : a0 = (118 : Int32)
                                    · have h := it_t h c_18
                                      refine lv_tableIn (tgt := 90) hx hb dX3_nameOf_1 (by rw [c_18]; decide) (by rw [c_18]; decide) (by rw [c_18]; rfl) (by decide) ?_
                                      refine lv_iconst (v := (1 : Int32)) hx hb dX3_nameOf_90 (by decide) ?_
                                      exact hret _ _ _ _ _ _ dX3_nameOf_91 rfl (congrArg (fun z9 => (z9, σ)) (Option.some.inj h)) hP
                                    · have h := it_f h c_18
                                      refine lv_tableOut (tgt := 106) hx hb dX3_nameOf_1 (by have n0 := lv_neT c_1 (a := 101) (by decide); have n1 := lv_neT c_2 (a := 102) (by decide); have n2 := lv_neT c_3 (a := 103) (by decide); have n3 := lv_neT c_4 (a := 104) (by decide); have n4 := lv_neT c_5 (a := 105) (by decide); have n5 := lv_neT c_6 (a := 106) (by decide); have n6 := lv_neT c_7 (a := 107) (by decide); have n7 := lv_neT c_8 (a := 108) (by decide); have n8 := lv_neT c_9 (a := 109) (by decide); have n9 := lv_neT c_10 (a := 110) (by decide); have n10 := lv_neT c_11 (a := 111) (by decide); have n11 := lv_neT c_12 (a := 112) (by decide); have n12 := lv_neT c_13 (a := 113) (by decide); have n13 := lv_neT c_14 (a := 114) (by decide); have n14 := lv_neT c_15 (a := 115) (by decide); have n15 := lv_neT c_16 (a := 116) (by decide); have n16 := lv_neT c_17 (a := 117) (by decide); have n17 := lv_neT c_18 (a := 118) (by decide); omega) (by decide) ?_
                                      refine lv_iconst (v := (-1 : Int32)) hx hb dX3_nameOf_106 (by decide) ?_
                                      exact hret _ _ _ _ _ _ dX3_nameOf_107 rfl (congrArg (fun z9 => (z9, σ)) (Option.some.inj h)) hP
def tw_product_K35 (fo : ST → Option (Int32 × ST)) (rc10 : Int32 → Int32 → ST → Option (Int32 × ST)) (σ : ST) (k1 : Int32) (k2 : Int32) : Option (Int32 × ST) :=
  st_ (pI σ 0 21 ((gI σ 0 21) + (1 : Int32))) (fun (σ_8 : ST) => bo2 (fo σ_8) (fun (r_11 : Int32) (σ_12 : ST) => bo (if k2 = (42 : Int32) then some ((k1 * r_11)) else (if r_11 = 0 then some ((0 : Int32)) else (if k2 = (47 : Int32) then nz r_11 (some ((k1 / r_11))) else nz r_11 (some ((k1 - k1 / r_11 * r_11)))))) (fun (x_13 : Int32) => bo (tw_byteAt σ_12) (fun (r_17 : Int32) => (rc10 x_13 r_17 σ_12)))))
def tw_product_B10 (fo : ST → Option (Int32 × ST)) (rc10 : Int32 → Int32 → ST → Option (Int32 × ST)) (w1 : Int32) (w2 : Int32) (σ : ST) : Option (Int32 × ST) :=
  (if 0 ≤ (gI σ 0 23) then some (w1, σ) else (if w2 = (42 : Int32) then (tw_product_K35 fo rc10 σ w1 w2) else (if w2 = (47 : Int32) then (tw_product_K35 fo rc10 σ w1 w2) else (if w2 = (37 : Int32) then (tw_product_K35 fo rc10 σ w1 w2) else some (w1, σ)))))
def tw_product (fo : ST → Option (Int32 × ST)) (σ : ST)  : Option (Int32 × ST) :=
  bo2 (fo σ) (fun (r_2 : Int32) (σ_3 : ST) => bo (tw_byteAt σ_3) (fun (r_5 : Int32) => bo2 (wl3 (tw_product_B10 fo ) FU r_2 r_5 σ_3) (fun (o_38 : Int32) (σ_39 : ST) => some (o_38, σ_39))))
set_option maxHeartbeats 4000000 in
set_option maxRecDepth 100000 in
theorem mt_X3_product (l : Launch) (G : GT) {f lo : Nat} (fo : ST → Option (Int32 × ST)) (hfo : ∀ (σ : ST) {r : Int32} {u : ST}, fo σ = some (r, u) → CI l tw_ft G yX3_one (ws_ yX3_one cX3_one 5 (some .int)) (rmf f lo) 0 0 [.ref (G.2.2.1 0)] σ (r, u)) (σ : ST)  {r : Int32} {u : ST} (h : tw_product fo σ = some (r, u)) : CI l tw_ft G yX3_product (ws_ yX3_product cX3_product 4 (some .int)) (rmf (f + 1) (lo + 24)) 0 0 [.ref (G.2.2.1 0)] σ (r, u) := by
  refine m_enterI (by decide) rfl (lv := [(0, .ref (G.2.2.1 0))]) rfl ?_
  intro p e s m args below meth c H locs ls Q X hret hP hl
  have hx := X.1.1
  have hb := X.1.2.1
  have hown := X.1.2.2.2.1
  have hts := X.1.2.2.2.2
  unfold tw_product at h
  refine lv_aload_n hx hb dX3_product_0 rfl (lv_at hl 0 rfl) ?_
  obtain ⟨r_2, σ_3, e_1, h⟩ := bo2_ex h
  refine r_calli (r_runV (rest := []) X hP 0 tw_c0 lk_3 (hfo σ e_1) (cwV 0 hts (lw_V q1981 q1983 qs61 q113 q1984) rfl rfl rfl ⟨rfl, cdX3_one⟩ (rm_le (by omega) (by omega))) rfl hl.1 rfl (Nat.le_of_ble_eq_true rfl) dX3_product_1 ⟨Nat.le_refl _, Nat.le_refl _⟩) hP (fun H locs hP => ?_)
  refine lv_istore_n (lv' := [(1, .int r_2), (0, .ref (G.2.2.1 0))]) hx hb dX3_product_4 rfl hl (by decide) rfl (fun ls hl => ?_)
  refine lv_aload_n hx hb dX3_product_5 rfl (lv_at hl 1 rfl) ?_
  obtain ⟨r_5, e_4, h⟩ := bo_ex h
  refine r_calli (r_runV (rest := []) X hP 0 tw_c0 lk_3 (mt_X3_byteAt l G σ_3 e_4) (cwV 0 hts (lw_V q1985 q1987 qs62 q113 q1988) rfl rfl rfl ⟨rfl, cdX3_byteAt⟩ (rm_le (by omega) (by omega))) rfl hl.1 rfl (Nat.le_of_ble_eq_true rfl) dX3_product_6 ⟨Nat.le_refl _, Nat.le_refl _⟩) hP (fun H locs hP => ?_)
  refine lv_istore_n (lv' := [(2, .int r_5), (1, .int r_2), (0, .ref (G.2.2.1 0))]) hx hb dX3_product_9 rfl hl (by decide) rfl (fun ls hl => ?_)
  obtain ⟨o_38, σ_39, h_40, h⟩ := bo2_ex h
  have hE_41 : ∀ (H : Heap) (locs : List Loc) (ls : Array Slot), PS tw_ft G s σ_39 H locs → lv_has ls 4 [(1, .int o_38)] → W p l e (rmf (f + 1) (lo + 24)) s m args below meth c H locs 0 0 Q (F0 m 94 ls []) := by
    intro H locs ls hP hl
    refine lv_iload_n hx hb dX3_product_94 rfl (lv_at hl 0 rfl) ?_
    exact hret _ _ _ _ _ _ dX3_product_95 rfl (Option.some.inj h) hP
  have hL_37 : ∀ (n : Nat) (w_42 : Int32) (w_43 : Int32) (σ_44 : ST) (H : Heap) (locs : List Loc) (ls : Array Slot), wl3 (tw_product_B10 fo ) n w_42 w_43 σ_44 = some (o_38, σ_39) → PS tw_ft G s σ_44 H locs → lv_has ls 4 [(0, .ref (G.2.2.1 0)), (1, .int w_42), (2, .int w_43)] → W p l e (rmf (f + 1) (lo + 24)) s m args below meth c H locs 0 0 Q (F0 m 10 ls []) := by
    intro n
    induction n with
    | zero => intro w_42 w_43 σ_44 H locs ls h_45; cases h_45
    | succ n ih =>
      intro w_42 w_43 σ_44 H locs ls h_45 hP hl
      have h_45 : tw_product_B10 fo  (wl3 (tw_product_B10 fo ) n) w_42 w_43 σ_44 = some _ := h_45
      generalize wl3 (tw_product_B10 fo ) n = rc_46 at h_45 ih
      unfold tw_product_B10 at h_45
      refine lv_aload_n hx hb dX3_product_10 rfl (lv_at hl 0 rfl) ?_
      refine r_geti X hP 0 tw_c0 lk_3 23 (Nat.le_of_ble_eq_true rfl) q1661 tw_f23 dX3_product_11 ?_
      refine lv_if_ge (tgt := 94) hx hb dX3_product_14 (by decide) (fun c_47 => ?_) (fun c_47 => ?_)
      · have h_45 := it_t h_45 c_47
        obtain ⟨rfl, rfl⟩ := so2 h_45
        exact hE_41 _ _ _ hP (lv_sub hl [1] rfl)
      · have h_45 := it_f h_45 c_47
        refine lv_iload_n hx hb dX3_product_17 rfl (lv_at hl 2 rfl) ?_
        refine lv_bipush (v := (42 : Int32)) hx hb dX3_product_18 (by decide) ?_
        have hK_48 : ∀ (H : Heap) (locs : List Loc) (ls : Array Slot), tw_product_K35 fo rc_46 σ_44 w_42 w_43 = some (o_38, σ_39) → PS tw_ft G s σ_44 H locs → lv_has ls 4 [(0, .ref (G.2.2.1 0)), (1, .int w_42), (2, .int w_43)] → W p l e (rmf (f + 1) (lo + 24)) s m args below meth c H locs 0 0 Q (F0 m 35 ls []) := by
          intro  H locs ls h_45 hP hl
          unfold tw_product_K35 at h_45
          refine lv_aload_n hx hb dX3_product_35 rfl (lv_at hl 0 rfl) ?_
          refine lv_dup hx hb dX3_product_36 rfl ?_
          refine r_geti X hP 0 tw_c0 lk_3 21 (Nat.le_of_ble_eq_true rfl) q1659 tw_f21 dX3_product_37 ?_
          refine lv_iconst (v := (1 : Int32)) hx hb dX3_product_40 (by decide) ?_
          refine lv_iadd hx hb dX3_product_41 ?_
          refine r_puti X tw_w hP 0 tw_c0 lk_3 21 (Nat.le_of_ble_eq_true rfl) q1659 tw_f21 rfl (tyX3_ok 21 (by decide)) rfl rfl dX3_product_42 (fun σ_49 H locs e_50 hP => ?_)
          have h_45 := st_k h_45 e_50
          refine lv_aload_n hx hb dX3_product_45 rfl (lv_at hl 0 rfl) ?_
          obtain ⟨r_52, σ_53, e_51, h_45⟩ := bo2_ex h_45
          refine r_calli (r_runV (rest := []) X hP 0 tw_c0 lk_3 (hfo σ_49 e_51) (cwV 0 hts (lw_V q1981 q1983 qs61 q113 q1984) rfl rfl rfl ⟨rfl, cdX3_one⟩ (rm_le (by omega) (by omega))) rfl hl.1 rfl (Nat.le_of_ble_eq_true rfl) dX3_product_46 ⟨Nat.le_refl _, Nat.le_refl _⟩) hP (fun H locs hP => ?_)
          refine lv_istore_n (lv' := [(3, .int r_52), (0, .ref (G.2.2.1 0)), (1, .int w_42), (2, .int w_43)]) hx hb dX3_product_49 rfl hl (by decide) rfl (fun ls hl => ?_)
          refine lv_iload_n hx hb dX3_product_50 rfl (lv_at hl 3 rfl) ?_
          refine lv_bipush (v := (42 : Int32)) hx hb dX3_product_51 (by decide) ?_
          obtain ⟨x_54, h_55, h_45⟩ := bo_ex h_45
          have hJ_56 : ∀ (H : Heap) (locs : List Loc) (ls : Array Slot), PS tw_ft G s σ_53 H locs → lv_has ls 4 [(0, .ref (G.2.2.1 0))] → W p l e (rmf (f + 1) (lo + 24)) s m args below meth c H locs 0 0 Q (F0 m 85 ls [.int x_54]) := by
            intro H locs ls hP hl
            refine lv_istore_n (lv' := [(1, .int x_54), (0, .ref (G.2.2.1 0))]) hx hb dX3_product_85 rfl hl (by decide) rfl (fun ls hl => ?_)
            refine lv_aload_n hx hb dX3_product_86 rfl (lv_at hl 1 rfl) ?_
            obtain ⟨r_58, e_57, h_45⟩ := bo_ex h_45
            refine r_calli (r_runV (rest := []) X hP 0 tw_c0 lk_3 (mt_X3_byteAt l G σ_53 e_57) (cwV 0 hts (lw_V q1985 q1987 qs62 q113 q1988) rfl rfl rfl ⟨rfl, cdX3_byteAt⟩ (rm_le (by omega) (by omega))) rfl hl.1 rfl (Nat.le_of_ble_eq_true rfl) dX3_product_87 ⟨Nat.le_refl _, Nat.le_refl _⟩) hP (fun H locs hP => ?_)
            refine lv_istore_n (lv' := [(2, .int r_58), (1, .int x_54), (0, .ref (G.2.2.1 0))]) hx hb dX3_product_90 rfl hl (by decide) rfl (fun ls hl => ?_)
            refine lv_goto (tgt := 10) hx hb dX3_product_91 (by decide) ?_
            exact ih _ _ _ _ _ _ h_45 hP (lv_sub hl [2, 1, 0] rfl)
          refine lv_icmp_ne (tgt := 62) hx hb dX3_product_53 (by decide) (fun c_59 => ?_) (fun c_59 => ?_)
          · have h_55 := it_f h_55 c_59
            refine lv_iload_n hx hb dX3_product_62 rfl (lv_at hl 0 rfl) ?_
            refine lv_if_ne (tgt := 70) hx hb dX3_product_63 (by decide) (fun c_60 => ?_) (fun c_60 => ?_)
            · have h_55 := it_f h_55 c_60
              refine lv_iload_n hx hb dX3_product_70 rfl (lv_at hl 3 rfl) ?_
              refine lv_bipush (v := (47 : Int32)) hx hb dX3_product_71 (by decide) ?_
              refine lv_icmp_ne (tgt := 82) hx hb dX3_product_73 (by decide) (fun c_61 => ?_) (fun c_61 => ?_)
              · have h_55 := it_f h_55 c_61
                refine lv_iload_n hx hb dX3_product_82 rfl (lv_at hl 2 rfl) ?_
                refine lv_iload_n hx hb dX3_product_83 rfl (lv_at hl 0 rfl) ?_
                refine lv_irem hx hb dX3_product_84 (nz_ne h_55) ?_
                have h_55 := nz_k h_55
                obtain rfl := Option.some.inj h_55
                exact hJ_56 _ _ _ hP (lv_sub hl [1] rfl)
              · have h_55 := it_t h_55 c_61
                refine lv_iload_n hx hb dX3_product_76 rfl (lv_at hl 2 rfl) ?_
                refine lv_iload_n hx hb dX3_product_77 rfl (lv_at hl 0 rfl) ?_
                refine lv_idiv hx hb dX3_product_78 (nz_ne h_55) ?_
                have h_55 := nz_k h_55
                refine lv_goto (tgt := 85) hx hb dX3_product_79 (by decide) ?_
                obtain rfl := Option.some.inj h_55
                exact hJ_56 _ _ _ hP (lv_sub hl [1] rfl)
            · have h_55 := it_t h_55 c_60
              refine lv_iconst (v := (0 : Int32)) hx hb dX3_product_66 (by decide) ?_
              refine lv_goto (tgt := 85) hx hb dX3_product_67 (by decide) ?_
              obtain rfl := Option.some.inj h_55
              exact hJ_56 _ _ _ hP (lv_sub hl [1] rfl)
          · have h_55 := it_t h_55 c_59
            refine lv_iload_n hx hb dX3_product_56 rfl (lv_at hl 2 rfl) ?_
            refine lv_iload_n hx hb dX3_product_57 rfl (lv_at hl 0 rfl) ?_
            refine lv_imul hx hb dX3_product_58 ?_
            refine lv_goto (tgt := 85) hx hb dX3_product_59 (by decide) ?_
            obtain rfl := Option.some.inj h_55
            exact hJ_56 _ _ _ hP (lv_sub hl [1] rfl)
        refine lv_icmp_eq (tgt := 35) hx hb dX3_product_20 (by decide) (fun c_62 => ?_) (fun c_62 => ?_)
        · have h_45 := it_t h_45 c_62
          exact hK_48  _ _ _ h_45 hP (lv_sub hl [0, 1, 2] rfl)
        · have h_45 := it_f h_45 c_62
          refine lv_iload_n hx hb dX3_product_23 rfl (lv_at hl 2 rfl) ?_
          refine lv_bipush (v := (47 : Int32)) hx hb dX3_product_24 (by decide) ?_
          refine lv_icmp_eq (tgt := 35) hx hb dX3_product_26 (by decide) (fun c_63 => ?_) (fun c_63 => ?_)
          · have h_45 := it_t h_45 c_63
            exact hK_48  _ _ _ h_45 hP (lv_sub hl [0, 1, 2] rfl)
          · have h_45 := it_f h_45 c_63
            refine lv_iload_n hx hb dX3_product_29 rfl (lv_at hl 2 rfl) ?_
            refine lv_bipush (v := (37 : Int32)) hx hb dX3_product_30 (by decide) ?_
            refine lv_icmp_ne (tgt := 94) hx hb dX3_product_32 (by decide) (fun c_64 => ?_) (fun c_64 => ?_)
            · have h_45 := it_f h_45 c_64
              obtain ⟨rfl, rfl⟩ := so2 h_45
              exact hE_41 _ _ _ hP (lv_sub hl [1] rfl)
            · have h_45 := it_t h_45 c_64
              exact hK_48  _ _ _ h_45 hP (lv_sub hl [0, 1, 2] rfl)
  exact hL_37 _ _ _ _ _ _ _ h_40 hP (lv_sub hl [2, 1, 0] rfl)
def tw_sums_K30 (fo : ST → Option (Int32 × ST)) (rc5 : Int32 → ST → Option (Int32 × ST)) (σ : ST) (k1 : Int32) : Option (Int32 × ST) :=
  bo (tw_byteAt σ) (fun (r_9 : Int32) => bo (if r_9 = (43 : Int32) then some ((1 : Int32)) else some ((0 : Int32))) (fun (x_10 : Int32) => st_ (pI σ 0 21 ((gI σ 0 21) + (1 : Int32))) (fun (σ_13 : ST) => bo2 (tw_product fo σ_13) (fun (r_16 : Int32) (σ_17 : ST) => bo (if x_10 = 0 then some ((k1 - r_16)) else some ((k1 + r_16))) (fun (x_18 : Int32) => (rc5 x_18 σ_17))))))
def tw_sums_B5 (fo : ST → Option (Int32 × ST)) (rc5 : Int32 → ST → Option (Int32 × ST)) (w1 : Int32) (σ : ST) : Option (Int32 × ST) :=
  (if 0 ≤ (gI σ 0 23) then some (w1, σ) else bo (tw_byteAt σ) (fun (r_6 : Int32) => (if r_6 = (43 : Int32) then (tw_sums_K30 fo rc5 σ w1) else bo (tw_byteAt σ) (fun (r_40 : Int32) => (if r_40 = (45 : Int32) then (tw_sums_K30 fo rc5 σ w1) else some (w1, σ))))))
def tw_sums (fo : ST → Option (Int32 × ST)) (σ : ST)  : Option (Int32 × ST) :=
  bo2 (tw_product fo σ) (fun (r_2 : Int32) (σ_3 : ST) => bo2 (wl2 (tw_sums_B5 fo ) FU r_2 σ_3) (fun (o_43 : Int32) (σ_44 : ST) => some (o_43, σ_44)))
set_option maxHeartbeats 4000000 in
set_option maxRecDepth 100000 in
theorem mt_X3_sums (l : Launch) (G : GT) {f lo : Nat} (fo : ST → Option (Int32 × ST)) (hfo : ∀ (σ : ST) {r : Int32} {u : ST}, fo σ = some (r, u) → CI l tw_ft G yX3_one (ws_ yX3_one cX3_one 5 (some .int)) (rmf f lo) 0 0 [.ref (G.2.2.1 0)] σ (r, u)) (σ : ST)  {r : Int32} {u : ST} (h : tw_sums fo σ = some (r, u)) : CI l tw_ft G yX3_sums (ws_ yX3_sums cX3_sums 4 (some .int)) (rmf (f + 2) (lo + 47)) 0 0 [.ref (G.2.2.1 0)] σ (r, u) := by
  refine m_enterI (by decide) rfl (lv := [(0, .ref (G.2.2.1 0))]) rfl ?_
  intro p e s m args below meth c H locs ls Q X hret hP hl
  have hx := X.1.1
  have hb := X.1.2.1
  have hown := X.1.2.2.2.1
  have hts := X.1.2.2.2.2
  unfold tw_sums at h
  refine lv_aload_n hx hb dX3_sums_0 rfl (lv_at hl 0 rfl) ?_
  obtain ⟨r_2, σ_3, e_1, h⟩ := bo2_ex h
  refine r_calli (r_runV (rest := []) X hP 0 tw_c0 lk_3 (mt_X3_product l G fo hfo σ e_1) (cwV 0 hts (lw_V q1977 q1979 qs60 q113 q1980) rfl rfl rfl ⟨rfl, cdX3_product⟩ (rm_le (by omega) (by omega))) rfl hl.1 rfl (Nat.le_of_ble_eq_true rfl) dX3_sums_1 ⟨Nat.le_refl _, Nat.le_refl _⟩) hP (fun H locs hP => ?_)
  refine lv_istore_n (lv' := [(1, .int r_2), (0, .ref (G.2.2.1 0))]) hx hb dX3_sums_4 rfl hl (by decide) rfl (fun ls hl => ?_)
  obtain ⟨o_43, σ_44, h_45, h⟩ := bo2_ex h
  have hE_46 : ∀ (H : Heap) (locs : List Loc) (ls : Array Slot), PS tw_ft G s σ_44 H locs → lv_has ls 4 [(1, .int o_43)] → W p l e (rmf (f + 2) (lo + 47)) s m args below meth c H locs 0 0 Q (F0 m 77 ls []) := by
    intro H locs ls hP hl
    refine lv_iload_n hx hb dX3_sums_77 rfl (lv_at hl 0 rfl) ?_
    exact hret _ _ _ _ _ _ dX3_sums_78 rfl (Option.some.inj h) hP
  have hL_42 : ∀ (n : Nat) (w_47 : Int32) (σ_48 : ST) (H : Heap) (locs : List Loc) (ls : Array Slot), wl2 (tw_sums_B5 fo ) n w_47 σ_48 = some (o_43, σ_44) → PS tw_ft G s σ_48 H locs → lv_has ls 4 [(0, .ref (G.2.2.1 0)), (1, .int w_47)] → W p l e (rmf (f + 2) (lo + 47)) s m args below meth c H locs 0 0 Q (F0 m 5 ls []) := by
    intro n
    induction n with
    | zero => intro w_47 σ_48 H locs ls h_49; cases h_49
    | succ n ih =>
      intro w_47 σ_48 H locs ls h_49 hP hl
      have h_49 : tw_sums_B5 fo  (wl2 (tw_sums_B5 fo ) n) w_47 σ_48 = some _ := h_49
      generalize wl2 (tw_sums_B5 fo ) n = rc_50 at h_49 ih
      unfold tw_sums_B5 at h_49
      refine lv_aload_n hx hb dX3_sums_5 rfl (lv_at hl 0 rfl) ?_
      refine r_geti X hP 0 tw_c0 lk_3 23 (Nat.le_of_ble_eq_true rfl) q1661 tw_f23 dX3_sums_6 ?_
      refine lv_if_ge (tgt := 77) hx hb dX3_sums_9 (by decide) (fun c_51 => ?_) (fun c_51 => ?_)
      · have h_49 := it_t h_49 c_51
        obtain ⟨rfl, rfl⟩ := so2 h_49
        exact hE_46 _ _ _ hP (lv_sub hl [1] rfl)
      · have h_49 := it_f h_49 c_51
        refine lv_aload_n hx hb dX3_sums_12 rfl (lv_at hl 0 rfl) ?_
        obtain ⟨r_53, e_52, h_49⟩ := bo_ex h_49
        refine r_calli (r_runV (rest := []) X hP 0 tw_c0 lk_3 (mt_X3_byteAt l G σ_48 e_52) (cwV 0 hts (lw_V q1985 q1987 qs62 q113 q1988) rfl rfl rfl ⟨rfl, cdX3_byteAt⟩ (rm_le (by omega) (by omega))) rfl hl.1 rfl (Nat.le_of_ble_eq_true rfl) dX3_sums_13 ⟨Nat.le_refl _, Nat.le_refl _⟩) hP (fun H locs hP => ?_)
        refine lv_bipush (v := (43 : Int32)) hx hb dX3_sums_16 (by decide) ?_
        have hK_54 : ∀ (H : Heap) (locs : List Loc) (ls : Array Slot), tw_sums_K30 fo rc_50 σ_48 w_47 = some (o_43, σ_44) → PS tw_ft G s σ_48 H locs → lv_has ls 4 [(0, .ref (G.2.2.1 0)), (1, .int w_47)] → W p l e (rmf (f + 2) (lo + 47)) s m args below meth c H locs 0 0 Q (F0 m 30 ls []) := by
          intro  H locs ls h_49 hP hl
          unfold tw_sums_K30 at h_49
          refine lv_aload_n hx hb dX3_sums_30 rfl (lv_at hl 0 rfl) ?_
          obtain ⟨r_56, e_55, h_49⟩ := bo_ex h_49
          refine r_calli (r_runV (rest := []) X hP 0 tw_c0 lk_3 (mt_X3_byteAt l G σ_48 e_55) (cwV 0 hts (lw_V q1985 q1987 qs62 q113 q1988) rfl rfl rfl ⟨rfl, cdX3_byteAt⟩ (rm_le (by omega) (by omega))) rfl hl.1 rfl (Nat.le_of_ble_eq_true rfl) dX3_sums_31 ⟨Nat.le_refl _, Nat.le_refl _⟩) hP (fun H locs hP => ?_)
          refine lv_bipush (v := (43 : Int32)) hx hb dX3_sums_34 (by decide) ?_
          obtain ⟨x_57, h_58, h_49⟩ := bo_ex h_49
          have hJ_59 : ∀ (H : Heap) (locs : List Loc) (ls : Array Slot), PS tw_ft G s σ_48 H locs → lv_has ls 4 [(0, .ref (G.2.2.1 0)), (1, .int w_47)] → W p l e (rmf (f + 2) (lo + 47)) s m args below meth c H locs 0 0 Q (F0 m 44 ls [.int x_57]) := by
            intro H locs ls hP hl
            refine lv_istore_n (lv' := [(2, .int x_57), (0, .ref (G.2.2.1 0)), (1, .int w_47)]) hx hb dX3_sums_44 rfl hl (by decide) rfl (fun ls hl => ?_)
            refine lv_aload_n hx hb dX3_sums_45 rfl (lv_at hl 1 rfl) ?_
            refine lv_dup hx hb dX3_sums_46 rfl ?_
            refine r_geti X hP 0 tw_c0 lk_3 21 (Nat.le_of_ble_eq_true rfl) q1659 tw_f21 dX3_sums_47 ?_
            refine lv_iconst (v := (1 : Int32)) hx hb dX3_sums_50 (by decide) ?_
            refine lv_iadd hx hb dX3_sums_51 ?_
            refine r_puti X tw_w hP 0 tw_c0 lk_3 21 (Nat.le_of_ble_eq_true rfl) q1659 tw_f21 rfl (tyX3_ok 21 (by decide)) rfl rfl dX3_sums_52 (fun σ_60 H locs e_61 hP => ?_)
            have h_49 := st_k h_49 e_61
            refine lv_aload_n hx hb dX3_sums_55 rfl (lv_at hl 1 rfl) ?_
            obtain ⟨r_63, σ_64, e_62, h_49⟩ := bo2_ex h_49
            refine r_calli (r_runV (rest := []) X hP 0 tw_c0 lk_3 (mt_X3_product l G fo hfo σ_60 e_62) (cwV 0 hts (lw_V q1977 q1979 qs60 q113 q1980) rfl rfl rfl ⟨rfl, cdX3_product⟩ (rm_le (by omega) (by omega))) rfl hl.1 rfl (Nat.le_of_ble_eq_true rfl) dX3_sums_56 ⟨Nat.le_refl _, Nat.le_refl _⟩) hP (fun H locs hP => ?_)
            refine lv_istore_n (lv' := [(3, .int r_63), (2, .int x_57), (0, .ref (G.2.2.1 0)), (1, .int w_47)]) hx hb dX3_sums_59 rfl hl (by decide) rfl (fun ls hl => ?_)
            refine lv_iload_n hx hb dX3_sums_60 rfl (lv_at hl 1 rfl) ?_
            obtain ⟨x_65, h_66, h_49⟩ := bo_ex h_49
            have hJ_67 : ∀ (H : Heap) (locs : List Loc) (ls : Array Slot), PS tw_ft G s σ_64 H locs → lv_has ls 4 [(0, .ref (G.2.2.1 0))] → W p l e (rmf (f + 2) (lo + 47)) s m args below meth c H locs 0 0 Q (F0 m 73 ls [.int x_65]) := by
              intro H locs ls hP hl
              refine lv_istore_n (lv' := [(1, .int x_65), (0, .ref (G.2.2.1 0))]) hx hb dX3_sums_73 rfl hl (by decide) rfl (fun ls hl => ?_)
              refine lv_goto (tgt := 5) hx hb dX3_sums_74 (by decide) ?_
              exact ih _ _ _ _ _ h_49 hP (lv_sub hl [1, 0] rfl)
            refine lv_if_eq (tgt := 70) hx hb dX3_sums_61 (by decide) (fun c_68 => ?_) (fun c_68 => ?_)
            · have h_66 := it_t h_66 c_68
              refine lv_iload_n hx hb dX3_sums_70 rfl (lv_at hl 3 rfl) ?_
              refine lv_iload_n hx hb dX3_sums_71 rfl (lv_at hl 0 rfl) ?_
              refine lv_isub hx hb dX3_sums_72 ?_
              obtain rfl := Option.some.inj h_66
              exact hJ_67 _ _ _ hP (lv_sub hl [2] rfl)
            · have h_66 := it_f h_66 c_68
              refine lv_iload_n hx hb dX3_sums_64 rfl (lv_at hl 3 rfl) ?_
              refine lv_iload_n hx hb dX3_sums_65 rfl (lv_at hl 0 rfl) ?_
              refine lv_iadd hx hb dX3_sums_66 ?_
              refine lv_goto (tgt := 73) hx hb dX3_sums_67 (by decide) ?_
              obtain rfl := Option.some.inj h_66
              exact hJ_67 _ _ _ hP (lv_sub hl [2] rfl)
          refine lv_icmp_ne (tgt := 43) hx hb dX3_sums_36 (by decide) (fun c_69 => ?_) (fun c_69 => ?_)
          · have h_58 := it_f h_58 c_69
            refine lv_iconst (v := (0 : Int32)) hx hb dX3_sums_43 (by decide) ?_
            obtain rfl := Option.some.inj h_58
            exact hJ_59 _ _ _ hP (lv_sub hl [0, 1] rfl)
          · have h_58 := it_t h_58 c_69
            refine lv_iconst (v := (1 : Int32)) hx hb dX3_sums_39 (by decide) ?_
            refine lv_goto (tgt := 44) hx hb dX3_sums_40 (by decide) ?_
            obtain rfl := Option.some.inj h_58
            exact hJ_59 _ _ _ hP (lv_sub hl [0, 1] rfl)
        refine lv_icmp_eq (tgt := 30) hx hb dX3_sums_18 (by decide) (fun c_70 => ?_) (fun c_70 => ?_)
        · have h_49 := it_t h_49 c_70
          exact hK_54  _ _ _ h_49 hP (lv_sub hl [0, 1] rfl)
        · have h_49 := it_f h_49 c_70
          refine lv_aload_n hx hb dX3_sums_21 rfl (lv_at hl 0 rfl) ?_
          obtain ⟨r_72, e_71, h_49⟩ := bo_ex h_49
          refine r_calli (r_runV (rest := []) X hP 0 tw_c0 lk_3 (mt_X3_byteAt l G σ_48 e_71) (cwV 0 hts (lw_V q1985 q1987 qs62 q113 q1988) rfl rfl rfl ⟨rfl, cdX3_byteAt⟩ (rm_le (by omega) (by omega))) rfl hl.1 rfl (Nat.le_of_ble_eq_true rfl) dX3_sums_22 ⟨Nat.le_refl _, Nat.le_refl _⟩) hP (fun H locs hP => ?_)
          refine lv_bipush (v := (45 : Int32)) hx hb dX3_sums_25 (by decide) ?_
          refine lv_icmp_ne (tgt := 77) hx hb dX3_sums_27 (by decide) (fun c_73 => ?_) (fun c_73 => ?_)
          · have h_49 := it_f h_49 c_73
            obtain ⟨rfl, rfl⟩ := so2 h_49
            exact hE_46 _ _ _ hP (lv_sub hl [1] rfl)
          · have h_49 := it_t h_49 c_73
            exact hK_54  _ _ _ h_49 hP (lv_sub hl [0, 1] rfl)
  exact hL_42 _ _ _ _ _ _ h_45 hP (lv_sub hl [1, 0] rfl)
def tw_compared_K37 (fo : ST → Option (Int32 × ST)) (σ : ST) (k1 : Int32) (k2 : Int32) : Option (Int32 × ST) :=
  st_ (pI σ 0 21 ((gI σ 0 21) + (1 : Int32))) (fun (σ_8 : ST) => bo2 (tw_sums fo σ_8) (fun (r_11 : Int32) (σ_12 : ST) => (if k2 = (60 : Int32) then (if r_11 ≤ k1 then some ((0 : Int32), σ_12) else some ((1 : Int32), σ_12)) else (if k2 = (61 : Int32) then (if k1 = r_11 then some ((1 : Int32), σ_12) else some ((0 : Int32), σ_12)) else (if k1 ≤ r_11 then some ((0 : Int32), σ_12) else some ((1 : Int32), σ_12))))))
def tw_compared (fo : ST → Option (Int32 × ST)) (σ : ST)  : Option (Int32 × ST) :=
  bo2 (tw_sums fo σ) (fun (r_2 : Int32) (σ_3 : ST) => bo (tw_byteAt σ_3) (fun (r_5 : Int32) => (if 0 ≤ (gI σ_3 0 23) then some (r_2, σ_3) else (if r_5 = (60 : Int32) then (tw_compared_K37 fo σ_3 r_2 r_5) else (if r_5 = (61 : Int32) then (tw_compared_K37 fo σ_3 r_2 r_5) else (if r_5 = (62 : Int32) then (tw_compared_K37 fo σ_3 r_2 r_5) else some (r_2, σ_3)))))))
set_option maxHeartbeats 4000000 in
set_option maxRecDepth 100000 in
theorem mt_X3_compared (l : Launch) (G : GT) {f lo : Nat} (fo : ST → Option (Int32 × ST)) (hfo : ∀ (σ : ST) {r : Int32} {u : ST}, fo σ = some (r, u) → CI l tw_ft G yX3_one (ws_ yX3_one cX3_one 5 (some .int)) (rmf f lo) 0 0 [.ref (G.2.2.1 0)] σ (r, u)) (σ : ST)  {r : Int32} {u : ST} (h : tw_compared fo σ = some (r, u)) : CI l tw_ft G yX3_compared (ws_ yX3_compared cX3_compared 4 (some .int)) (rmf (f + 3) (lo + 70)) 0 0 [.ref (G.2.2.1 0)] σ (r, u) := by
  refine m_enterI (by decide) rfl (lv := [(0, .ref (G.2.2.1 0))]) rfl ?_
  intro p e s m args below meth c H locs ls Q X hret hP hl
  have hx := X.1.1
  have hb := X.1.2.1
  have hown := X.1.2.2.2.1
  have hts := X.1.2.2.2.2
  unfold tw_compared at h
  refine lv_aload_n hx hb dX3_compared_0 rfl (lv_at hl 0 rfl) ?_
  obtain ⟨r_2, σ_3, e_1, h⟩ := bo2_ex h
  refine r_calli (r_runV (rest := []) X hP 0 tw_c0 lk_3 (mt_X3_sums l G fo hfo σ e_1) (cwV 0 hts (lw_V q1973 q1975 qs59 q113 q1976) rfl rfl rfl ⟨rfl, cdX3_sums⟩ (rm_le (by omega) (by omega))) rfl hl.1 rfl (Nat.le_of_ble_eq_true rfl) dX3_compared_1 ⟨Nat.le_refl _, Nat.le_refl _⟩) hP (fun H locs hP => ?_)
  refine lv_istore_n (lv' := [(1, .int r_2), (0, .ref (G.2.2.1 0))]) hx hb dX3_compared_4 rfl hl (by decide) rfl (fun ls hl => ?_)
  refine lv_aload_n hx hb dX3_compared_5 rfl (lv_at hl 1 rfl) ?_
  obtain ⟨r_5, e_4, h⟩ := bo_ex h
  refine r_calli (r_runV (rest := []) X hP 0 tw_c0 lk_3 (mt_X3_byteAt l G σ_3 e_4) (cwV 0 hts (lw_V q1985 q1987 qs62 q113 q1988) rfl rfl rfl ⟨rfl, cdX3_byteAt⟩ (rm_le (by omega) (by omega))) rfl hl.1 rfl (Nat.le_of_ble_eq_true rfl) dX3_compared_6 ⟨Nat.le_refl _, Nat.le_refl _⟩) hP (fun H locs hP => ?_)
  refine lv_istore_n (lv' := [(2, .int r_5), (1, .int r_2), (0, .ref (G.2.2.1 0))]) hx hb dX3_compared_9 rfl hl (by decide) rfl (fun ls hl => ?_)
  refine lv_aload_n hx hb dX3_compared_10 rfl (lv_at hl 2 rfl) ?_
  refine r_geti X hP 0 tw_c0 lk_3 23 (Nat.le_of_ble_eq_true rfl) q1661 tw_f23 dX3_compared_11 ?_
  refine lv_if_ge (tgt := 35) hx hb dX3_compared_14 (by decide) (fun c_6 => ?_) (fun c_6 => ?_)
  · have h := it_t h c_6
    refine lv_iload_n hx hb dX3_compared_35 rfl (lv_at hl 1 rfl) ?_
    exact hret _ _ _ _ _ _ dX3_compared_36 rfl (Option.some.inj h) hP
  · have h := it_f h c_6
    refine lv_iload_n hx hb dX3_compared_17 rfl (lv_at hl 0 rfl) ?_
    refine lv_bipush (v := (60 : Int32)) hx hb dX3_compared_18 (by decide) ?_
    have hK_7 : ∀ (H : Heap) (locs : List Loc) (ls : Array Slot), tw_compared_K37 fo σ_3 r_2 r_5 = some (r, u) → PS tw_ft G s σ_3 H locs → lv_has ls 4 [(0, .ref (G.2.2.1 0)), (1, .int r_2), (2, .int r_5)] → W p l e (rmf (f + 3) (lo + 70)) s m args below meth c H locs 0 0 Q (F0 m 37 ls []) := by
      intro  H locs ls h hP hl
      unfold tw_compared_K37 at h
      refine lv_aload_n hx hb dX3_compared_37 rfl (lv_at hl 0 rfl) ?_
      refine lv_dup hx hb dX3_compared_38 rfl ?_
      refine r_geti X hP 0 tw_c0 lk_3 21 (Nat.le_of_ble_eq_true rfl) q1659 tw_f21 dX3_compared_39 ?_
      refine lv_iconst (v := (1 : Int32)) hx hb dX3_compared_42 (by decide) ?_
      refine lv_iadd hx hb dX3_compared_43 ?_
      refine r_puti X tw_w hP 0 tw_c0 lk_3 21 (Nat.le_of_ble_eq_true rfl) q1659 tw_f21 rfl (tyX3_ok 21 (by decide)) rfl rfl dX3_compared_44 (fun σ_18 H locs e_19 hP => ?_)
      have h := st_k h e_19
      refine lv_aload_n hx hb dX3_compared_47 rfl (lv_at hl 0 rfl) ?_
      obtain ⟨r_21, σ_22, e_20, h⟩ := bo2_ex h
      refine r_calli (r_runV (rest := []) X hP 0 tw_c0 lk_3 (mt_X3_sums l G fo hfo σ_18 e_20) (cwV 0 hts (lw_V q1973 q1975 qs59 q113 q1976) rfl rfl rfl ⟨rfl, cdX3_sums⟩ (rm_le (by omega) (by omega))) rfl hl.1 rfl (Nat.le_of_ble_eq_true rfl) dX3_compared_48 ⟨Nat.le_refl _, Nat.le_refl _⟩) hP (fun H locs hP => ?_)
      refine lv_istore_n (lv' := [(3, .int r_21), (0, .ref (G.2.2.1 0)), (1, .int r_2), (2, .int r_5)]) hx hb dX3_compared_51 rfl hl (by decide) rfl (fun ls hl => ?_)
      refine lv_iload_n hx hb dX3_compared_52 rfl (lv_at hl 3 rfl) ?_
      refine lv_bipush (v := (60 : Int32)) hx hb dX3_compared_53 (by decide) ?_
      refine lv_icmp_ne (tgt := 66) hx hb dX3_compared_55 (by decide) (fun c_23 => ?_) (fun c_23 => ?_)
      · have h := it_f h c_23
        refine lv_iload_n hx hb dX3_compared_66 rfl (lv_at hl 3 rfl) ?_
        refine lv_bipush (v := (61 : Int32)) hx hb dX3_compared_67 (by decide) ?_
        refine lv_icmp_ne (tgt := 80) hx hb dX3_compared_69 (by decide) (fun c_24 => ?_) (fun c_24 => ?_)
        · have h := it_f h c_24
          refine lv_iload_n hx hb dX3_compared_80 rfl (lv_at hl 2 rfl) ?_
          refine lv_iload_n hx hb dX3_compared_81 rfl (lv_at hl 0 rfl) ?_
          refine lv_icmp_le (tgt := 89) hx hb dX3_compared_82 (by decide) (fun c_25 => ?_) (fun c_25 => ?_)
          · have h := it_t h c_25
            refine lv_iconst (v := (0 : Int32)) hx hb dX3_compared_89 (by decide) ?_
            exact hret _ _ _ _ _ _ dX3_compared_90 rfl (Option.some.inj h) hP
          · have h := it_f h c_25
            refine lv_iconst (v := (1 : Int32)) hx hb dX3_compared_85 (by decide) ?_
            refine lv_goto (tgt := 90) hx hb dX3_compared_86 (by decide) ?_
            exact hret _ _ _ _ _ _ dX3_compared_90 rfl (Option.some.inj h) hP
        · have h := it_t h c_24
          refine lv_iload_n hx hb dX3_compared_72 rfl (lv_at hl 2 rfl) ?_
          refine lv_iload_n hx hb dX3_compared_73 rfl (lv_at hl 0 rfl) ?_
          refine lv_icmp_ne (tgt := 89) hx hb dX3_compared_74 (by decide) (fun c_26 => ?_) (fun c_26 => ?_)
          · have h := it_f h c_26
            refine lv_iconst (v := (0 : Int32)) hx hb dX3_compared_89 (by decide) ?_
            exact hret _ _ _ _ _ _ dX3_compared_90 rfl (Option.some.inj h) hP
          · have h := it_t h c_26
            refine lv_goto (tgt := 85) hx hb dX3_compared_77 (by decide) ?_
            refine lv_iconst (v := (1 : Int32)) hx hb dX3_compared_85 (by decide) ?_
            refine lv_goto (tgt := 90) hx hb dX3_compared_86 (by decide) ?_
            exact hret _ _ _ _ _ _ dX3_compared_90 rfl (Option.some.inj h) hP
      · have h := it_t h c_23
        refine lv_iload_n hx hb dX3_compared_58 rfl (lv_at hl 2 rfl) ?_
        refine lv_iload_n hx hb dX3_compared_59 rfl (lv_at hl 0 rfl) ?_
        refine lv_icmp_ge (tgt := 89) hx hb dX3_compared_60 (by decide) (fun c_27 => ?_) (fun c_27 => ?_)
        · have h := it_t h c_27
          refine lv_iconst (v := (0 : Int32)) hx hb dX3_compared_89 (by decide) ?_
          exact hret _ _ _ _ _ _ dX3_compared_90 rfl (Option.some.inj h) hP
        · have h := it_f h c_27
          refine lv_goto (tgt := 85) hx hb dX3_compared_63 (by decide) ?_
          refine lv_iconst (v := (1 : Int32)) hx hb dX3_compared_85 (by decide) ?_
          refine lv_goto (tgt := 90) hx hb dX3_compared_86 (by decide) ?_
          exact hret _ _ _ _ _ _ dX3_compared_90 rfl (Option.some.inj h) hP
    refine lv_icmp_eq (tgt := 37) hx hb dX3_compared_20 (by decide) (fun c_28 => ?_) (fun c_28 => ?_)
    · have h := it_t h c_28
      exact hK_7  _ _ _ h hP (lv_sub hl [2, 1, 0] rfl)
    · have h := it_f h c_28
      refine lv_iload_n hx hb dX3_compared_23 rfl (lv_at hl 0 rfl) ?_
      refine lv_bipush (v := (61 : Int32)) hx hb dX3_compared_24 (by decide) ?_
      refine lv_icmp_eq (tgt := 37) hx hb dX3_compared_26 (by decide) (fun c_29 => ?_) (fun c_29 => ?_)
      · have h := it_t h c_29
        exact hK_7  _ _ _ h hP (lv_sub hl [2, 1, 0] rfl)
      · have h := it_f h c_29
        refine lv_iload_n hx hb dX3_compared_29 rfl (lv_at hl 0 rfl) ?_
        refine lv_bipush (v := (62 : Int32)) hx hb dX3_compared_30 (by decide) ?_
        refine lv_icmp_eq (tgt := 37) hx hb dX3_compared_32 (by decide) (fun c_30 => ?_) (fun c_30 => ?_)
        · have h := it_t h c_30
          exact hK_7  _ _ _ h hP (lv_sub hl [2, 1, 0] rfl)
        · have h := it_f h c_30
          refine lv_iload_n hx hb dX3_compared_35 rfl (lv_at hl 1 rfl) ?_
          exact hret _ _ _ _ _ _ dX3_compared_36 rfl (Option.some.inj h) hP
def tw_both_B5 (fo : ST → Option (Int32 × ST)) (rc5 : Int32 → ST → Option (Int32 × ST)) (w1 : Int32) (σ : ST) : Option (Int32 × ST) :=
  bo2 (tw_takes σ (38 : Int32)) (fun (r_5 : Int32) (σ_6 : ST) => (if r_5 = 0 then some (w1, σ_6) else bo2 (tw_compared fo σ_6) (fun (r_9 : Int32) (σ_10 : ST) => bo (if w1 = 0 then some ((0 : Int32)) else (if r_9 = 0 then some ((0 : Int32)) else some ((1 : Int32)))) (fun (x_11 : Int32) => (rc5 x_11 σ_10)))))
def tw_both (fo : ST → Option (Int32 × ST)) (σ : ST)  : Option (Int32 × ST) :=
  bo2 (tw_compared fo σ) (fun (r_2 : Int32) (σ_3 : ST) => bo2 (wl2 (tw_both_B5 fo ) FU r_2 σ_3) (fun (o_17 : Int32) (σ_18 : ST) => some (o_17, σ_18)))
set_option maxHeartbeats 4000000 in
set_option maxRecDepth 100000 in
theorem mt_X3_both (l : Launch) (G : GT) {f lo : Nat} (fo : ST → Option (Int32 × ST)) (hfo : ∀ (σ : ST) {r : Int32} {u : ST}, fo σ = some (r, u) → CI l tw_ft G yX3_one (ws_ yX3_one cX3_one 5 (some .int)) (rmf f lo) 0 0 [.ref (G.2.2.1 0)] σ (r, u)) (σ : ST)  {r : Int32} {u : ST} (h : tw_both fo σ = some (r, u)) : CI l tw_ft G yX3_both (ws_ yX3_both cX3_both 3 (some .int)) (rmf (f + 4) (lo + 93)) 0 0 [.ref (G.2.2.1 0)] σ (r, u) := by
  refine m_enterI (by decide) rfl (lv := [(0, .ref (G.2.2.1 0))]) rfl ?_
  intro p e s m args below meth c H locs ls Q X hret hP hl
  have hx := X.1.1
  have hb := X.1.2.1
  have hown := X.1.2.2.2.1
  have hts := X.1.2.2.2.2
  unfold tw_both at h
  refine lv_aload_n hx hb dX3_both_0 rfl (lv_at hl 0 rfl) ?_
  obtain ⟨r_2, σ_3, e_1, h⟩ := bo2_ex h
  refine r_calli (r_runV (rest := []) X hP 0 tw_c0 lk_3 (mt_X3_compared l G fo hfo σ e_1) (cwV 0 hts (lw_V q1969 q1971 qs58 q113 q1972) rfl rfl rfl ⟨rfl, cdX3_compared⟩ (rm_le (by omega) (by omega))) rfl hl.1 rfl (Nat.le_of_ble_eq_true rfl) dX3_both_1 ⟨Nat.le_refl _, Nat.le_refl _⟩) hP (fun H locs hP => ?_)
  refine lv_istore_n (lv' := [(1, .int r_2), (0, .ref (G.2.2.1 0))]) hx hb dX3_both_4 rfl hl (by decide) rfl (fun ls hl => ?_)
  obtain ⟨o_17, σ_18, h_19, h⟩ := bo2_ex h
  have hE_20 : ∀ (H : Heap) (locs : List Loc) (ls : Array Slot), PS tw_ft G s σ_18 H locs → lv_has ls 3 [(1, .int o_17)] → W p l e (rmf (f + 4) (lo + 93)) s m args below meth c H locs 0 0 Q (F0 m 36 ls []) := by
    intro H locs ls hP hl
    refine lv_iload_n hx hb dX3_both_36 rfl (lv_at hl 0 rfl) ?_
    exact hret _ _ _ _ _ _ dX3_both_37 rfl (Option.some.inj h) hP
  have hL_16 : ∀ (n : Nat) (w_21 : Int32) (σ_22 : ST) (H : Heap) (locs : List Loc) (ls : Array Slot), wl2 (tw_both_B5 fo ) n w_21 σ_22 = some (o_17, σ_18) → PS tw_ft G s σ_22 H locs → lv_has ls 3 [(0, .ref (G.2.2.1 0)), (1, .int w_21)] → W p l e (rmf (f + 4) (lo + 93)) s m args below meth c H locs 0 0 Q (F0 m 5 ls []) := by
    intro n
    induction n with
    | zero => intro w_21 σ_22 H locs ls h_23; cases h_23
    | succ n ih =>
      intro w_21 σ_22 H locs ls h_23 hP hl
      have h_23 : tw_both_B5 fo  (wl2 (tw_both_B5 fo ) n) w_21 σ_22 = some _ := h_23
      generalize wl2 (tw_both_B5 fo ) n = rc_24 at h_23 ih
      unfold tw_both_B5 at h_23
      refine lv_aload_n hx hb dX3_both_5 rfl (lv_at hl 0 rfl) ?_
      refine lv_bipush (v := (38 : Int32)) hx hb dX3_both_6 (by decide) ?_
      obtain ⟨r_26, σ_27, e_25, h_23⟩ := bo2_ex h_23
      refine r_calli (r_runV (rest := []) X hP 0 tw_c0 lk_3 (mt_X3_takes l G σ_22 (38 : Int32) e_25) (cwV 1 hts (lw_V q1993 q1995 qs64 q113 q1996) rfl rfl rfl ⟨rfl, cdX3_takes⟩ (rm_le (by omega) (by omega))) rfl hl.1 rfl (Nat.le_of_ble_eq_true rfl) dX3_both_8 ⟨Nat.le_refl _, Nat.le_refl _⟩) hP (fun H locs hP => ?_)
      refine lv_if_eq (tgt := 36) hx hb dX3_both_11 (by decide) (fun c_28 => ?_) (fun c_28 => ?_)
      · have h_23 := it_t h_23 c_28
        obtain ⟨rfl, rfl⟩ := so2 h_23
        exact hE_20 _ _ _ hP (lv_sub hl [1] rfl)
      · have h_23 := it_f h_23 c_28
        refine lv_aload_n hx hb dX3_both_14 rfl (lv_at hl 0 rfl) ?_
        obtain ⟨r_30, σ_31, e_29, h_23⟩ := bo2_ex h_23
        refine r_calli (r_runV (rest := []) X hP 0 tw_c0 lk_3 (mt_X3_compared l G fo hfo σ_27 e_29) (cwV 0 hts (lw_V q1969 q1971 qs58 q113 q1972) rfl rfl rfl ⟨rfl, cdX3_compared⟩ (rm_le (by omega) (by omega))) rfl hl.1 rfl (Nat.le_of_ble_eq_true rfl) dX3_both_15 ⟨Nat.le_refl _, Nat.le_refl _⟩) hP (fun H locs hP => ?_)
        refine lv_istore_n (lv' := [(2, .int r_30), (0, .ref (G.2.2.1 0)), (1, .int w_21)]) hx hb dX3_both_18 rfl hl (by decide) rfl (fun ls hl => ?_)
        refine lv_iload_n hx hb dX3_both_19 rfl (lv_at hl 2 rfl) ?_
        obtain ⟨x_32, h_33, h_23⟩ := bo_ex h_23
        have hJ_34 : ∀ (H : Heap) (locs : List Loc) (ls : Array Slot), PS tw_ft G s σ_31 H locs → lv_has ls 3 [(0, .ref (G.2.2.1 0))] → W p l e (rmf (f + 4) (lo + 93)) s m args below meth c H locs 0 0 Q (F0 m 32 ls [.int x_32]) := by
          intro H locs ls hP hl
          refine lv_istore_n (lv' := [(1, .int x_32), (0, .ref (G.2.2.1 0))]) hx hb dX3_both_32 rfl hl (by decide) rfl (fun ls hl => ?_)
          refine lv_goto (tgt := 5) hx hb dX3_both_33 (by decide) ?_
          exact ih _ _ _ _ _ h_23 hP (lv_sub hl [1, 0] rfl)
        refine lv_if_eq (tgt := 31) hx hb dX3_both_20 (by decide) (fun c_35 => ?_) (fun c_35 => ?_)
        · have h_33 := it_t h_33 c_35
          refine lv_iconst (v := (0 : Int32)) hx hb dX3_both_31 (by decide) ?_
          obtain rfl := Option.some.inj h_33
          exact hJ_34 _ _ _ hP (lv_sub hl [1] rfl)
        · have h_33 := it_f h_33 c_35
          refine lv_iload_n hx hb dX3_both_23 rfl (lv_at hl 0 rfl) ?_
          refine lv_if_eq (tgt := 31) hx hb dX3_both_24 (by decide) (fun c_36 => ?_) (fun c_36 => ?_)
          · have h_33 := it_t h_33 c_36
            refine lv_iconst (v := (0 : Int32)) hx hb dX3_both_31 (by decide) ?_
            obtain rfl := Option.some.inj h_33
            exact hJ_34 _ _ _ hP (lv_sub hl [1] rfl)
          · have h_33 := it_f h_33 c_36
            refine lv_iconst (v := (1 : Int32)) hx hb dX3_both_27 (by decide) ?_
            refine lv_goto (tgt := 32) hx hb dX3_both_28 (by decide) ?_
            obtain rfl := Option.some.inj h_33
            exact hJ_34 _ _ _ hP (lv_sub hl [1] rfl)
  exact hL_16 _ _ _ _ _ _ h_19 hP (lv_sub hl [1, 0] rfl)
def tw_either_B5 (fo : ST → Option (Int32 × ST)) (rc5 : Int32 → ST → Option (Int32 × ST)) (w1 : Int32) (σ : ST) : Option (Int32 × ST) :=
  bo2 (tw_takes σ (124 : Int32)) (fun (r_5 : Int32) (σ_6 : ST) => (if r_5 = 0 then some (w1, σ_6) else bo2 (tw_both fo σ_6) (fun (r_9 : Int32) (σ_10 : ST) => bo (if w1 = 0 then (if r_9 = 0 then some ((0 : Int32)) else some ((1 : Int32))) else some ((1 : Int32))) (fun (x_11 : Int32) => (rc5 x_11 σ_10)))))
def tw_either (fo : ST → Option (Int32 × ST)) (σ : ST)  : Option (Int32 × ST) :=
  bo2 (tw_both fo σ) (fun (r_2 : Int32) (σ_3 : ST) => bo2 (wl2 (tw_either_B5 fo ) FU r_2 σ_3) (fun (o_17 : Int32) (σ_18 : ST) => some (o_17, σ_18)))
set_option maxHeartbeats 4000000 in
set_option maxRecDepth 100000 in
theorem mt_X3_either (l : Launch) (G : GT) {f lo : Nat} (fo : ST → Option (Int32 × ST)) (hfo : ∀ (σ : ST) {r : Int32} {u : ST}, fo σ = some (r, u) → CI l tw_ft G yX3_one (ws_ yX3_one cX3_one 5 (some .int)) (rmf f lo) 0 0 [.ref (G.2.2.1 0)] σ (r, u)) (σ : ST)  {r : Int32} {u : ST} (h : tw_either fo σ = some (r, u)) : CI l tw_ft G yX3_either (ws_ yX3_either cX3_either 3 (some .int)) (rmf (f + 5) (lo + 115)) 0 0 [.ref (G.2.2.1 0)] σ (r, u) := by
  refine m_enterI (by decide) rfl (lv := [(0, .ref (G.2.2.1 0))]) rfl ?_
  intro p e s m args below meth c H locs ls Q X hret hP hl
  have hx := X.1.1
  have hb := X.1.2.1
  have hown := X.1.2.2.2.1
  have hts := X.1.2.2.2.2
  unfold tw_either at h
  refine lv_aload_n hx hb dX3_either_0 rfl (lv_at hl 0 rfl) ?_
  obtain ⟨r_2, σ_3, e_1, h⟩ := bo2_ex h
  refine r_calli (r_runV (rest := []) X hP 0 tw_c0 lk_3 (mt_X3_both l G fo hfo σ e_1) (cwV 0 hts (lw_V q1965 q1967 qs57 q113 q1968) rfl rfl rfl ⟨rfl, cdX3_both⟩ (rm_le (by omega) (by omega))) rfl hl.1 rfl (Nat.le_of_ble_eq_true rfl) dX3_either_1 ⟨Nat.le_refl _, Nat.le_refl _⟩) hP (fun H locs hP => ?_)
  refine lv_istore_n (lv' := [(1, .int r_2), (0, .ref (G.2.2.1 0))]) hx hb dX3_either_4 rfl hl (by decide) rfl (fun ls hl => ?_)
  obtain ⟨o_17, σ_18, h_19, h⟩ := bo2_ex h
  have hE_20 : ∀ (H : Heap) (locs : List Loc) (ls : Array Slot), PS tw_ft G s σ_18 H locs → lv_has ls 3 [(1, .int o_17)] → W p l e (rmf (f + 5) (lo + 115)) s m args below meth c H locs 0 0 Q (F0 m 36 ls []) := by
    intro H locs ls hP hl
    refine lv_iload_n hx hb dX3_either_36 rfl (lv_at hl 0 rfl) ?_
    exact hret _ _ _ _ _ _ dX3_either_37 rfl (Option.some.inj h) hP
  have hL_16 : ∀ (n : Nat) (w_21 : Int32) (σ_22 : ST) (H : Heap) (locs : List Loc) (ls : Array Slot), wl2 (tw_either_B5 fo ) n w_21 σ_22 = some (o_17, σ_18) → PS tw_ft G s σ_22 H locs → lv_has ls 3 [(0, .ref (G.2.2.1 0)), (1, .int w_21)] → W p l e (rmf (f + 5) (lo + 115)) s m args below meth c H locs 0 0 Q (F0 m 5 ls []) := by
    intro n
    induction n with
    | zero => intro w_21 σ_22 H locs ls h_23; cases h_23
    | succ n ih =>
      intro w_21 σ_22 H locs ls h_23 hP hl
      have h_23 : tw_either_B5 fo  (wl2 (tw_either_B5 fo ) n) w_21 σ_22 = some _ := h_23
      generalize wl2 (tw_either_B5 fo ) n = rc_24 at h_23 ih
      unfold tw_either_B5 at h_23
      refine lv_aload_n hx hb dX3_either_5 rfl (lv_at hl 0 rfl) ?_
      refine lv_bipush (v := (124 : Int32)) hx hb dX3_either_6 (by decide) ?_
      obtain ⟨r_26, σ_27, e_25, h_23⟩ := bo2_ex h_23
      refine r_calli (r_runV (rest := []) X hP 0 tw_c0 lk_3 (mt_X3_takes l G σ_22 (124 : Int32) e_25) (cwV 1 hts (lw_V q1993 q1995 qs64 q113 q1996) rfl rfl rfl ⟨rfl, cdX3_takes⟩ (rm_le (by omega) (by omega))) rfl hl.1 rfl (Nat.le_of_ble_eq_true rfl) dX3_either_8 ⟨Nat.le_refl _, Nat.le_refl _⟩) hP (fun H locs hP => ?_)
      refine lv_if_eq (tgt := 36) hx hb dX3_either_11 (by decide) (fun c_28 => ?_) (fun c_28 => ?_)
      · have h_23 := it_t h_23 c_28
        obtain ⟨rfl, rfl⟩ := so2 h_23
        exact hE_20 _ _ _ hP (lv_sub hl [1] rfl)
      · have h_23 := it_f h_23 c_28
        refine lv_aload_n hx hb dX3_either_14 rfl (lv_at hl 0 rfl) ?_
        obtain ⟨r_30, σ_31, e_29, h_23⟩ := bo2_ex h_23
        refine r_calli (r_runV (rest := []) X hP 0 tw_c0 lk_3 (mt_X3_both l G fo hfo σ_27 e_29) (cwV 0 hts (lw_V q1965 q1967 qs57 q113 q1968) rfl rfl rfl ⟨rfl, cdX3_both⟩ (rm_le (by omega) (by omega))) rfl hl.1 rfl (Nat.le_of_ble_eq_true rfl) dX3_either_15 ⟨Nat.le_refl _, Nat.le_refl _⟩) hP (fun H locs hP => ?_)
        refine lv_istore_n (lv' := [(2, .int r_30), (0, .ref (G.2.2.1 0)), (1, .int w_21)]) hx hb dX3_either_18 rfl hl (by decide) rfl (fun ls hl => ?_)
        refine lv_iload_n hx hb dX3_either_19 rfl (lv_at hl 2 rfl) ?_
        obtain ⟨x_32, h_33, h_23⟩ := bo_ex h_23
        have hJ_34 : ∀ (H : Heap) (locs : List Loc) (ls : Array Slot), PS tw_ft G s σ_31 H locs → lv_has ls 3 [(0, .ref (G.2.2.1 0))] → W p l e (rmf (f + 5) (lo + 115)) s m args below meth c H locs 0 0 Q (F0 m 32 ls [.int x_32]) := by
          intro H locs ls hP hl
          refine lv_istore_n (lv' := [(1, .int x_32), (0, .ref (G.2.2.1 0))]) hx hb dX3_either_32 rfl hl (by decide) rfl (fun ls hl => ?_)
          refine lv_goto (tgt := 5) hx hb dX3_either_33 (by decide) ?_
          exact ih _ _ _ _ _ h_23 hP (lv_sub hl [1, 0] rfl)
        refine lv_if_ne (tgt := 27) hx hb dX3_either_20 (by decide) (fun c_35 => ?_) (fun c_35 => ?_)
        · have h_33 := it_f h_33 c_35
          refine lv_iconst (v := (1 : Int32)) hx hb dX3_either_27 (by decide) ?_
          refine lv_goto (tgt := 32) hx hb dX3_either_28 (by decide) ?_
          obtain rfl := Option.some.inj h_33
          exact hJ_34 _ _ _ hP (lv_sub hl [1] rfl)
        · have h_33 := it_t h_33 c_35
          refine lv_iload_n hx hb dX3_either_23 rfl (lv_at hl 0 rfl) ?_
          refine lv_if_eq (tgt := 31) hx hb dX3_either_24 (by decide) (fun c_36 => ?_) (fun c_36 => ?_)
          · have h_33 := it_t h_33 c_36
            refine lv_iconst (v := (0 : Int32)) hx hb dX3_either_31 (by decide) ?_
            obtain rfl := Option.some.inj h_33
            exact hJ_34 _ _ _ hP (lv_sub hl [1] rfl)
          · have h_33 := it_f h_33 c_36
            refine lv_iconst (v := (1 : Int32)) hx hb dX3_either_27 (by decide) ?_
            refine lv_goto (tgt := 32) hx hb dX3_either_28 (by decide) ?_
            obtain rfl := Option.some.inj h_33
            exact hJ_34 _ _ _ hP (lv_sub hl [1] rfl)
  exact hL_16 _ _ _ _ _ _ h_19 hP (lv_sub hl [1, 0] rfl)
def tw_oneB_K104 (fo : ST → Option (Int32 × ST)) (σ : ST) (k1 : Int32) (k2 : Int32) : Option (Int32 × ST) :=
  st_ (pI σ 0 24 ((gI σ 0 24) - (1 : Int32))) (fun (σ_15 : ST) => (if k1 = (40 : Int32) then some (k2, σ_15) else (if k1 = (45 : Int32) then some ((-k2), σ_15) else (if k2 = 0 then some ((1 : Int32), σ_15) else some ((0 : Int32), σ_15)))))
def tw_oneB_K32 (fo : ST → Option (Int32 × ST)) (σ : ST) (k1 : Int32) : Option (Int32 × ST) :=
  (if (gI σ 0 24) = (6 : Int32) then bo2 (tw_wrong σ) (fun (r_42 : Int32) (σ_43 : ST) => some (r_42, σ_43)) else st_ (pI σ 0 24 ((gI σ 0 24) + (1 : Int32))) (fun (σ_6 : ST) => st_ (pI σ_6 0 21 ((gI σ_6 0 21) + (1 : Int32))) (fun (σ_8 : ST) => bo2 (if k1 = (40 : Int32) then bo2 (tw_either fo σ_8) (fun (r_39 : Int32) (σ_40 : ST) => some (r_39, σ_40)) else bo2 (fo σ_8) (fun (r_36 : Int32) (σ_37 : ST) => some (r_36, σ_37))) (fun (x_10 : Int32) (σ_11 : ST) => (if k1 = (40 : Int32) then bo2 (tw_takes σ_11 (41 : Int32)) (fun (r_28 : Int32) (σ_29 : ST) => (if r_28 = 0 then bo2 (tw_wrong σ_29) (fun (r_32 : Int32) (σ_33 : ST) => some (r_32, σ_33)) else (tw_oneB_K104 fo σ_29 k1 x_10))) else (tw_oneB_K104 fo σ_11 k1 x_10))))))
def tw_oneB_B176 (fo : ST → Option (Int32 × ST)) (rc176 : Int32 → Int32 → ST → Option (Int32 × Int32 × ST)) (w3 : Int32) (w4 : Int32) (σ : ST) : Option (Int32 × Int32 × ST) :=
  (if (4 : Int32) ≤ w4 then some (w3, w4, σ) else bo (tw_byteAt σ) (fun (r_87 : Int32) => (if r_87 < (48 : Int32) then some (w3, w4, σ) else bo (tw_byteAt σ) (fun (r_90 : Int32) => (if (57 : Int32) < r_90 then some (w3, w4, σ) else bo (tw_byteAt σ) (fun (r_93 : Int32) => st_ (pI σ 0 21 ((gI σ 0 21) + (1 : Int32))) (fun (σ_94 : ST) => (rc176 ((((10 : Int32) * w3) + r_93) - (48 : Int32)) (w4 + (1 : Int32)) σ_94))))))))
def tw_oneB (fo : ST → Option (Int32 × ST)) (σ : ST)  : Option (Int32 × ST) :=
  (if (gI σ 0 23) < 0 then bo (tw_byteAt σ) (fun (r_3 : Int32) => (if r_3 = (33 : Int32) then (tw_oneB_K32 fo σ r_3) else (if r_3 = (45 : Int32) then (tw_oneB_K32 fo σ r_3) else (if r_3 = (40 : Int32) then (tw_oneB_K32 fo σ r_3) else bo (tw_nameOf r_3) (fun (r_83 : Int32) => (if r_83 < 0 then bo3 (wl3 (tw_oneB_B176 fo ) FU (0 : Int32) (0 : Int32) σ) (fun (o_97 : Int32) (o_98 : Int32) (σ_99 : ST) => (if o_98 = 0 then bo2 (tw_wrong σ_99) (fun (r_104 : Int32) (σ_105 : ST) => some (r_104, σ_105)) else some (o_97, σ_99))) else st_ (pI σ 0 21 ((gI σ 0 21) + (1 : Int32))) (fun (σ_122 : ST) => ck r_83 8 (some ((lI σ_122 0 25 r_83), σ_122))))))))) else some ((0 : Int32), σ))
set_option maxHeartbeats 4000000 in
set_option maxRecDepth 100000 in
theorem mt_X3_one (l : Launch) (G : GT) {f lo : Nat} (fo : ST → Option (Int32 × ST)) (hfo : ∀ (σ : ST) {r : Int32} {u : ST}, fo σ = some (r, u) → CI l tw_ft G yX3_one (ws_ yX3_one cX3_one 5 (some .int)) (rmf f lo) 0 0 [.ref (G.2.2.1 0)] σ (r, u)) (σ : ST)  {r : Int32} {u : ST} (h : tw_oneB fo σ = some (r, u)) : CI l tw_ft G yX3_one (ws_ yX3_one cX3_one 5 (some .int)) (rmf (f + 6) (lo + 137)) 0 0 [.ref (G.2.2.1 0)] σ (r, u) := by
  refine m_enterI (by decide) rfl (lv := [(0, .ref (G.2.2.1 0))]) rfl ?_
  intro p e s m args below meth c H locs ls Q X hret hP hl
  have hx := X.1.1
  have hb := X.1.2.1
  have hown := X.1.2.2.2.1
  have hts := X.1.2.2.2.2
  unfold tw_oneB at h
  refine lv_aload_n hx hb dX3_one_0 rfl (lv_at hl 0 rfl) ?_
  refine r_geti X hP 0 tw_c0 lk_3 23 (Nat.le_of_ble_eq_true rfl) q1661 tw_f23 dX3_one_1 ?_
  refine lv_if_lt (tgt := 9) hx hb dX3_one_4 (by decide) (fun c_1 => ?_) (fun c_1 => ?_)
  · have h := it_t h c_1
    refine lv_aload_n hx hb dX3_one_9 rfl (lv_at hl 0 rfl) ?_
    obtain ⟨r_3, e_2, h⟩ := bo_ex h
    refine r_calli (r_runV (rest := []) X hP 0 tw_c0 lk_3 (mt_X3_byteAt l G σ e_2) (cwV 0 hts (lw_V q1985 q1987 qs62 q113 q1988) rfl rfl rfl ⟨rfl, cdX3_byteAt⟩ (rm_le (by omega) (by omega))) rfl hl.1 rfl (Nat.le_of_ble_eq_true rfl) dX3_one_10 ⟨Nat.le_refl _, Nat.le_refl _⟩) hP (fun H locs hP => ?_)
    refine lv_istore_n (lv' := [(1, .int r_3), (0, .ref (G.2.2.1 0))]) hx hb dX3_one_13 rfl hl (by decide) rfl (fun ls hl => ?_)
    refine lv_iload_n hx hb dX3_one_14 rfl (lv_at hl 0 rfl) ?_
    refine lv_bipush (v := (33 : Int32)) hx hb dX3_one_15 (by decide) ?_
    have hK_4 : ∀ (σ_44 : ST) (H : Heap) (locs : List Loc) (ls : Array Slot), tw_oneB_K32 fo σ_44 r_3 = some (r, u) → PS tw_ft G s σ_44 H locs → lv_has ls 5 [(0, .ref (G.2.2.1 0)), (1, .int r_3)] → W p l e (rmf (f + 6) (lo + 137)) s m args below meth c H locs 0 0 Q (F0 m 32 ls []) := by
      intro σ_44 H locs ls h hP hl
      unfold tw_oneB_K32 at h
      refine lv_aload_n hx hb dX3_one_32 rfl (lv_at hl 0 rfl) ?_
      refine r_geti X hP 0 tw_c0 lk_3 24 (Nat.le_of_ble_eq_true rfl) q1662 tw_f24 dX3_one_33 ?_
      refine lv_bipush (v := (6 : Int32)) hx hb dX3_one_36 (by decide) ?_
      refine lv_icmp_ne (tgt := 46) hx hb dX3_one_38 (by decide) (fun c_45 => ?_) (fun c_45 => ?_)
      · have h := it_f h c_45
        refine lv_aload_n hx hb dX3_one_46 rfl (lv_at hl 0 rfl) ?_
        refine lv_dup hx hb dX3_one_47 rfl ?_
        refine r_geti X hP 0 tw_c0 lk_3 24 (Nat.le_of_ble_eq_true rfl) q1662 tw_f24 dX3_one_48 ?_
        refine lv_iconst (v := (1 : Int32)) hx hb dX3_one_51 (by decide) ?_
        refine lv_iadd hx hb dX3_one_52 ?_
        refine r_puti X tw_w hP 0 tw_c0 lk_3 24 (Nat.le_of_ble_eq_true rfl) q1662 tw_f24 rfl (tyX3_ok 24 (by decide)) rfl rfl dX3_one_53 (fun σ_46 H locs e_47 hP => ?_)
        have h := st_k h e_47
        refine lv_aload_n hx hb dX3_one_56 rfl (lv_at hl 0 rfl) ?_
        refine lv_dup hx hb dX3_one_57 rfl ?_
        refine r_geti X hP 0 tw_c0 lk_3 21 (Nat.le_of_ble_eq_true rfl) q1659 tw_f21 dX3_one_58 ?_
        refine lv_iconst (v := (1 : Int32)) hx hb dX3_one_61 (by decide) ?_
        refine lv_iadd hx hb dX3_one_62 ?_
        refine r_puti X tw_w hP 0 tw_c0 lk_3 21 (Nat.le_of_ble_eq_true rfl) q1659 tw_f21 rfl (tyX3_ok 21 (by decide)) rfl rfl dX3_one_63 (fun σ_48 H locs e_49 hP => ?_)
        have h := st_k h e_49
        refine lv_iload_n hx hb dX3_one_66 rfl (lv_at hl 1 rfl) ?_
        refine lv_bipush (v := (40 : Int32)) hx hb dX3_one_67 (by decide) ?_
        obtain ⟨x_50, σ_51, h_52, h⟩ := bo2_ex h
        have hJ_53 : ∀ (H : Heap) (locs : List Loc) (ls : Array Slot), PS tw_ft G s σ_51 H locs → lv_has ls 5 [(0, .ref (G.2.2.1 0)), (1, .int r_3)] → W p l e (rmf (f + 6) (lo + 137)) s m args below meth c H locs 0 0 Q (F0 m 83 ls [.int x_50]) := by
          intro H locs ls hP hl
          refine lv_istore_n (lv' := [(2, .int x_50), (0, .ref (G.2.2.1 0)), (1, .int r_3)]) hx hb dX3_one_83 rfl hl (by decide) rfl (fun ls hl => ?_)
          refine lv_iload_n hx hb dX3_one_84 rfl (lv_at hl 2 rfl) ?_
          refine lv_bipush (v := (40 : Int32)) hx hb dX3_one_85 (by decide) ?_
          have hK_54 : ∀ (σ_55 : ST) (H : Heap) (locs : List Loc) (ls : Array Slot), tw_oneB_K104 fo σ_55 r_3 x_50 = some (r, u) → PS tw_ft G s σ_55 H locs → lv_has ls 5 [(0, .ref (G.2.2.1 0)), (1, .int r_3), (2, .int x_50)] → W p l e (rmf (f + 6) (lo + 137)) s m args below meth c H locs 0 0 Q (F0 m 104 ls []) := by
            intro σ_55 H locs ls h hP hl
            unfold tw_oneB_K104 at h
            refine lv_aload_n hx hb dX3_one_104 rfl (lv_at hl 0 rfl) ?_
            refine lv_dup hx hb dX3_one_105 rfl ?_
            refine r_geti X hP 0 tw_c0 lk_3 24 (Nat.le_of_ble_eq_true rfl) q1662 tw_f24 dX3_one_106 ?_
            refine lv_iconst (v := (1 : Int32)) hx hb dX3_one_109 (by decide) ?_
            refine lv_isub hx hb dX3_one_110 ?_
            refine r_puti X tw_w hP 0 tw_c0 lk_3 24 (Nat.le_of_ble_eq_true rfl) q1662 tw_f24 rfl (tyX3_ok 24 (by decide)) rfl rfl dX3_one_111 (fun σ_56 H locs e_57 hP => ?_)
            have h := st_k h e_57
            refine lv_iload_n hx hb dX3_one_114 rfl (lv_at hl 1 rfl) ?_
            refine lv_bipush (v := (40 : Int32)) hx hb dX3_one_115 (by decide) ?_
            refine lv_icmp_ne (tgt := 124) hx hb dX3_one_117 (by decide) (fun c_58 => ?_) (fun c_58 => ?_)
            · have h := it_f h c_58
              refine lv_iload_n hx hb dX3_one_124 rfl (lv_at hl 1 rfl) ?_
              refine lv_bipush (v := (45 : Int32)) hx hb dX3_one_125 (by decide) ?_
              refine lv_icmp_ne (tgt := 135) hx hb dX3_one_127 (by decide) (fun c_59 => ?_) (fun c_59 => ?_)
              · have h := it_f h c_59
                refine lv_iload_n hx hb dX3_one_135 rfl (lv_at hl 2 rfl) ?_
                refine lv_if_ne (tgt := 143) hx hb dX3_one_136 (by decide) (fun c_60 => ?_) (fun c_60 => ?_)
                · have h := it_f h c_60
                  refine lv_iconst (v := (0 : Int32)) hx hb dX3_one_143 (by decide) ?_
                  exact hret _ _ _ _ _ _ dX3_one_144 rfl (Option.some.inj h) hP
                · have h := it_t h c_60
                  refine lv_iconst (v := (1 : Int32)) hx hb dX3_one_139 (by decide) ?_
                  refine lv_goto (tgt := 144) hx hb dX3_one_140 (by decide) ?_
                  exact hret _ _ _ _ _ _ dX3_one_144 rfl (Option.some.inj h) hP
              · have h := it_t h c_59
                refine lv_iload_n hx hb dX3_one_130 rfl (lv_at hl 2 rfl) ?_
                refine lv_ineg hx hb dX3_one_131 ?_
                refine lv_goto (tgt := 144) hx hb dX3_one_132 (by decide) ?_
                exact hret _ _ _ _ _ _ dX3_one_144 rfl (Option.some.inj h) hP
            · have h := it_t h c_58
              refine lv_iload_n hx hb dX3_one_120 rfl (lv_at hl 2 rfl) ?_
              refine lv_goto (tgt := 144) hx hb dX3_one_121 (by decide) ?_
              exact hret _ _ _ _ _ _ dX3_one_144 rfl (Option.some.inj h) hP
          refine lv_icmp_ne (tgt := 104) hx hb dX3_one_87 (by decide) (fun c_61 => ?_) (fun c_61 => ?_)
          · have h := it_f h c_61
            exact hK_54 _ _ _ _ h hP (lv_sub hl [1, 2, 0] rfl)
          · have h := it_t h c_61
            refine lv_aload_n hx hb dX3_one_90 rfl (lv_at hl 1 rfl) ?_
            refine lv_bipush (v := (41 : Int32)) hx hb dX3_one_91 (by decide) ?_
            obtain ⟨r_63, σ_64, e_62, h⟩ := bo2_ex h
            refine r_calli (r_runV (rest := []) X hP 0 tw_c0 lk_3 (mt_X3_takes l G σ_51 (41 : Int32) e_62) (cwV 1 hts (lw_V q1993 q1995 qs64 q113 q1996) rfl rfl rfl ⟨rfl, cdX3_takes⟩ (rm_le (by omega) (by omega))) rfl hl.1 rfl (Nat.le_of_ble_eq_true rfl) dX3_one_93 ⟨Nat.le_refl _, Nat.le_refl _⟩) hP (fun H locs hP => ?_)
            refine lv_if_ne (tgt := 104) hx hb dX3_one_96 (by decide) (fun c_65 => ?_) (fun c_65 => ?_)
            · have h := it_f h c_65
              exact hK_54 _ _ _ _ h hP (lv_sub hl [1, 2, 0] rfl)
            · have h := it_t h c_65
              refine lv_aload_n hx hb dX3_one_99 rfl (lv_at hl 1 rfl) ?_
              obtain ⟨r_67, σ_68, e_66, h⟩ := bo2_ex h
              refine r_calli (r_runV (rest := []) X hP 0 tw_c0 lk_3 (mt_X3_wrong l G σ_64 e_66) (cwV 0 hts (lw_V q1989 q1991 qs63 q113 q1992) rfl rfl rfl ⟨rfl, cdX3_wrong⟩ (rm_le (by omega) (by omega))) rfl hl.1 rfl (Nat.le_of_ble_eq_true rfl) dX3_one_100 ⟨Nat.le_refl _, Nat.le_refl _⟩) hP (fun H locs hP => ?_)
              exact hret _ _ _ _ _ _ dX3_one_103 rfl (Option.some.inj h) hP
        refine lv_icmp_ne (tgt := 79) hx hb dX3_one_69 (by decide) (fun c_69 => ?_) (fun c_69 => ?_)
        · have h_52 := it_f h_52 c_69
          refine lv_aload_n hx hb dX3_one_79 rfl (lv_at hl 0 rfl) ?_
          obtain ⟨r_71, σ_72, e_70, h_52⟩ := bo2_ex h_52
          refine r_calli (r_runV (rest := []) X hP 0 tw_c0 lk_3 (hfo σ_48 e_70) (cwV 0 hts (lw_V q1981 q1983 qs61 q113 q1984) rfl rfl rfl ⟨rfl, cdX3_one⟩ (rm_le (by omega) (by omega))) rfl hl.1 rfl (Nat.le_of_ble_eq_true rfl) dX3_one_80 ⟨Nat.le_refl _, Nat.le_refl _⟩) hP (fun H locs hP => ?_)
          obtain ⟨rfl, rfl⟩ := so2 h_52
          exact hJ_53 _ _ _ hP (lv_sub hl [0, 1] rfl)
        · have h_52 := it_t h_52 c_69
          refine lv_aload_n hx hb dX3_one_72 rfl (lv_at hl 0 rfl) ?_
          obtain ⟨r_74, σ_75, e_73, h_52⟩ := bo2_ex h_52
          refine r_calli (r_runV (rest := []) X hP 0 tw_c0 lk_3 (mt_X3_either l G fo hfo σ_48 e_73) (cwV 0 hts (lw_V q1961 q1963 qs56 q113 q1964) rfl rfl rfl ⟨rfl, cdX3_either⟩ (rm_le (by omega) (by omega))) rfl hl.1 rfl (Nat.le_of_ble_eq_true rfl) dX3_one_73 ⟨Nat.le_refl _, Nat.le_refl _⟩) hP (fun H locs hP => ?_)
          refine lv_goto (tgt := 83) hx hb dX3_one_76 (by decide) ?_
          obtain ⟨rfl, rfl⟩ := so2 h_52
          exact hJ_53 _ _ _ hP (lv_sub hl [0, 1] rfl)
      · have h := it_t h c_45
        refine lv_aload_n hx hb dX3_one_41 rfl (lv_at hl 0 rfl) ?_
        obtain ⟨r_77, σ_78, e_76, h⟩ := bo2_ex h
        refine r_calli (r_runV (rest := []) X hP 0 tw_c0 lk_3 (mt_X3_wrong l G σ_44 e_76) (cwV 0 hts (lw_V q1989 q1991 qs63 q113 q1992) rfl rfl rfl ⟨rfl, cdX3_wrong⟩ (rm_le (by omega) (by omega))) rfl hl.1 rfl (Nat.le_of_ble_eq_true rfl) dX3_one_42 ⟨Nat.le_refl _, Nat.le_refl _⟩) hP (fun H locs hP => ?_)
        exact hret _ _ _ _ _ _ dX3_one_45 rfl (Option.some.inj h) hP
    refine lv_icmp_eq (tgt := 32) hx hb dX3_one_17 (by decide) (fun c_79 => ?_) (fun c_79 => ?_)
    · have h := it_t h c_79
      exact hK_4 _ _ _ _ h hP (lv_sub hl [1, 0] rfl)
    · have h := it_f h c_79
      refine lv_iload_n hx hb dX3_one_20 rfl (lv_at hl 0 rfl) ?_
      refine lv_bipush (v := (45 : Int32)) hx hb dX3_one_21 (by decide) ?_
      refine lv_icmp_eq (tgt := 32) hx hb dX3_one_23 (by decide) (fun c_80 => ?_) (fun c_80 => ?_)
      · have h := it_t h c_80
        exact hK_4 _ _ _ _ h hP (lv_sub hl [1, 0] rfl)
      · have h := it_f h c_80
        refine lv_iload_n hx hb dX3_one_26 rfl (lv_at hl 0 rfl) ?_
        refine lv_bipush (v := (40 : Int32)) hx hb dX3_one_27 (by decide) ?_
        refine lv_icmp_ne (tgt := 145) hx hb dX3_one_29 (by decide) (fun c_81 => ?_) (fun c_81 => ?_)
        · have h := it_f h c_81
          refine lv_iload_n hx hb dX3_one_145 rfl (lv_at hl 0 rfl) ?_
          obtain ⟨r_83, e_82, h⟩ := bo_ex h
          refine r_calli (r_runS (rest := []) X hP (mt_X3_nameOf l G σ r_3 e_82) (va_cwS 1 hts (lw_S q1997 q1998 q113 q1999) rfl rfl rfl cdX3_nameOf (rm_le (by omega) (by omega))) rfl hl.1 rfl (Nat.le_of_ble_eq_true rfl) dX3_one_146 ⟨Nat.le_refl _, Nat.le_refl _⟩) hP (fun H locs hP => ?_)
          refine lv_istore_n (lv' := [(2, .int r_83), (1, .int r_3), (0, .ref (G.2.2.1 0))]) hx hb dX3_one_149 rfl hl (by decide) rfl (fun ls hl => ?_)
          refine lv_iload_n hx hb dX3_one_150 rfl (lv_at hl 0 rfl) ?_
          refine lv_if_lt (tgt := 171) hx hb dX3_one_151 (by decide) (fun c_84 => ?_) (fun c_84 => ?_)
          · have h := it_t h c_84
            refine lv_iconst (v := (0 : Int32)) hx hb dX3_one_171 (by decide) ?_
            refine lv_istore_n (lv' := [(3, .int (0 : Int32)), (2, .int r_83), (1, .int r_3), (0, .ref (G.2.2.1 0))]) hx hb dX3_one_172 rfl hl (by decide) rfl (fun ls hl => ?_)
            refine lv_iconst (v := (0 : Int32)) hx hb dX3_one_173 (by decide) ?_
            refine lv_istore (lv' := [(4, .int (0 : Int32)), (3, .int (0 : Int32)), (2, .int r_83), (1, .int r_3), (0, .ref (G.2.2.1 0))]) hx hb dX3_one_174 hl (by decide) rfl (fun ls hl => ?_)
            obtain ⟨o_97, o_98, σ_99, h_100, h⟩ := bo3_ex h
            have hE_101 : ∀ (H : Heap) (locs : List Loc) (ls : Array Slot), PS tw_ft G s σ_99 H locs → lv_has ls 5 [(0, .ref (G.2.2.1 0)), (3, .int o_97), (4, .int o_98)] → W p l e (rmf (f + 6) (lo + 137)) s m args below meth c H locs 0 0 Q (F0 m 229 ls []) := by
              intro H locs ls hP hl
              refine lv_iload hx hb dX3_one_229 (lv_at hl 2 rfl) ?_
              refine lv_if_ne (tgt := 241) hx hb dX3_one_231 (by decide) (fun c_102 => ?_) (fun c_102 => ?_)
              · have h := it_f h c_102
                refine lv_iload_n hx hb dX3_one_241 rfl (lv_at hl 1 rfl) ?_
                exact hret _ _ _ _ _ _ dX3_one_242 rfl (Option.some.inj h) hP
              · have h := it_t h c_102
                refine lv_aload_n hx hb dX3_one_234 rfl (lv_at hl 0 rfl) ?_
                obtain ⟨r_104, σ_105, e_103, h⟩ := bo2_ex h
                refine r_calli (r_runV (rest := []) X hP 0 tw_c0 lk_3 (mt_X3_wrong l G σ_99 e_103) (cwV 0 hts (lw_V q1989 q1991 qs63 q113 q1992) rfl rfl rfl ⟨rfl, cdX3_wrong⟩ (rm_le (by omega) (by omega))) rfl hl.1 rfl (Nat.le_of_ble_eq_true rfl) dX3_one_235 ⟨Nat.le_refl _, Nat.le_refl _⟩) hP (fun H locs hP => ?_)
                refine lv_goto (tgt := 242) hx hb dX3_one_238 (by decide) ?_
                exact hret _ _ _ _ _ _ dX3_one_242 rfl (Option.some.inj h) hP
            have hL_96 : ∀ (n : Nat) (w_106 : Int32) (w_107 : Int32) (σ_108 : ST) (H : Heap) (locs : List Loc) (ls : Array Slot), wl3 (tw_oneB_B176 fo ) n w_106 w_107 σ_108 = some (o_97, o_98, σ_99) → PS tw_ft G s σ_108 H locs → lv_has ls 5 [(0, .ref (G.2.2.1 0)), (3, .int w_106), (4, .int w_107)] → W p l e (rmf (f + 6) (lo + 137)) s m args below meth c H locs 0 0 Q (F0 m 176 ls []) := by
              intro n
              induction n with
              | zero => intro w_106 w_107 σ_108 H locs ls h_109; cases h_109
              | succ n ih =>
                intro w_106 w_107 σ_108 H locs ls h_109 hP hl
                have h_109 : tw_oneB_B176 fo  (wl3 (tw_oneB_B176 fo ) n) w_106 w_107 σ_108 = some _ := h_109
                generalize wl3 (tw_oneB_B176 fo ) n = rc_110 at h_109 ih
                unfold tw_oneB_B176 at h_109
                refine lv_iload hx hb dX3_one_176 (lv_at hl 2 rfl) ?_
                refine lv_iconst (v := (4 : Int32)) hx hb dX3_one_178 (by decide) ?_
                refine lv_icmp_ge (tgt := 229) hx hb dX3_one_179 (by decide) (fun c_111 => ?_) (fun c_111 => ?_)
                · have h_109 := it_t h_109 c_111
                  obtain ⟨rfl, rfl, rfl⟩ := so3 h_109
                  exact hE_101 _ _ _ hP (lv_sub hl [0, 1, 2] rfl)
                · have h_109 := it_f h_109 c_111
                  refine lv_aload_n hx hb dX3_one_182 rfl (lv_at hl 0 rfl) ?_
                  obtain ⟨r_113, e_112, h_109⟩ := bo_ex h_109
                  refine r_calli (r_runV (rest := []) X hP 0 tw_c0 lk_3 (mt_X3_byteAt l G σ_108 e_112) (cwV 0 hts (lw_V q1985 q1987 qs62 q113 q1988) rfl rfl rfl ⟨rfl, cdX3_byteAt⟩ (rm_le (by omega) (by omega))) rfl hl.1 rfl (Nat.le_of_ble_eq_true rfl) dX3_one_183 ⟨Nat.le_refl _, Nat.le_refl _⟩) hP (fun H locs hP => ?_)
                  refine lv_bipush (v := (48 : Int32)) hx hb dX3_one_186 (by decide) ?_
                  refine lv_icmp_lt (tgt := 229) hx hb dX3_one_188 (by decide) (fun c_114 => ?_) (fun c_114 => ?_)
                  · have h_109 := it_t h_109 c_114
                    obtain ⟨rfl, rfl, rfl⟩ := so3 h_109
                    exact hE_101 _ _ _ hP (lv_sub hl [0, 1, 2] rfl)
                  · have h_109 := it_f h_109 c_114
                    refine lv_aload_n hx hb dX3_one_191 rfl (lv_at hl 0 rfl) ?_
                    obtain ⟨r_116, e_115, h_109⟩ := bo_ex h_109
                    refine r_calli (r_runV (rest := []) X hP 0 tw_c0 lk_3 (mt_X3_byteAt l G σ_108 e_115) (cwV 0 hts (lw_V q1985 q1987 qs62 q113 q1988) rfl rfl rfl ⟨rfl, cdX3_byteAt⟩ (rm_le (by omega) (by omega))) rfl hl.1 rfl (Nat.le_of_ble_eq_true rfl) dX3_one_192 ⟨Nat.le_refl _, Nat.le_refl _⟩) hP (fun H locs hP => ?_)
                    refine lv_bipush (v := (57 : Int32)) hx hb dX3_one_195 (by decide) ?_
                    refine lv_icmp_gt (tgt := 229) hx hb dX3_one_197 (by decide) (fun c_117 => ?_) (fun c_117 => ?_)
                    · have h_109 := it_t h_109 c_117
                      obtain ⟨rfl, rfl, rfl⟩ := so3 h_109
                      exact hE_101 _ _ _ hP (lv_sub hl [0, 1, 2] rfl)
                    · have h_109 := it_f h_109 c_117
                      refine lv_bipush (v := (10 : Int32)) hx hb dX3_one_200 (by decide) ?_
                      refine lv_iload_n hx hb dX3_one_202 rfl (lv_at hl 1 rfl) ?_
                      refine lv_imul hx hb dX3_one_203 ?_
                      refine lv_aload_n hx hb dX3_one_204 rfl (lv_at hl 0 rfl) ?_
                      obtain ⟨r_119, e_118, h_109⟩ := bo_ex h_109
                      refine r_calli (r_runV (rest := [.int ((10 : Int32) * w_106)]) X hP 0 tw_c0 lk_3 (mt_X3_byteAt l G σ_108 e_118) (cwV 0 hts (lw_V q1985 q1987 qs62 q113 q1988) rfl rfl rfl ⟨rfl, cdX3_byteAt⟩ (rm_le (by omega) (by omega))) rfl hl.1 rfl (Nat.le_of_ble_eq_true rfl) dX3_one_205 ⟨Nat.le_refl _, Nat.le_refl _⟩) hP (fun H locs hP => ?_)
                      refine lv_iadd hx hb dX3_one_208 ?_
                      refine lv_bipush (v := (48 : Int32)) hx hb dX3_one_209 (by decide) ?_
                      refine lv_isub hx hb dX3_one_211 ?_
                      refine lv_istore_n (lv' := [(3, .int ((((10 : Int32) * w_106) + r_119) - (48 : Int32))), (0, .ref (G.2.2.1 0)), (4, .int w_107)]) hx hb dX3_one_212 rfl hl (by decide) rfl (fun ls hl => ?_)
                      refine lv_iinc (v := (w_107 + (1 : Int32))) (lv' := [(4, .int (w_107 + (1 : Int32))), (3, .int ((((10 : Int32) * w_106) + r_119) - (48 : Int32))), (0, .ref (G.2.2.1 0))]) hx hb dX3_one_213 hl (k := 2) rfl rfl (by decide) rfl (fun ls hl => ?_)
                      refine lv_aload_n hx hb dX3_one_216 rfl (lv_at hl 2 rfl) ?_
                      refine lv_dup hx hb dX3_one_217 rfl ?_
                      refine r_geti X hP 0 tw_c0 lk_3 21 (Nat.le_of_ble_eq_true rfl) q1659 tw_f21 dX3_one_218 ?_
                      refine lv_iconst (v := (1 : Int32)) hx hb dX3_one_221 (by decide) ?_
                      refine lv_iadd hx hb dX3_one_222 ?_
                      refine r_puti X tw_w hP 0 tw_c0 lk_3 21 (Nat.le_of_ble_eq_true rfl) q1659 tw_f21 rfl (tyX3_ok 21 (by decide)) rfl rfl dX3_one_223 (fun σ_120 H locs e_121 hP => ?_)
                      have h_109 := st_k h_109 e_121
                      refine lv_goto (tgt := 176) hx hb dX3_one_226 (by decide) ?_
                      exact ih _ _ _ _ _ _ h_109 hP (lv_sub hl [2, 1, 0] rfl)
            exact hL_96 _ _ _ _ _ _ _ h_100 hP (lv_sub hl [4, 1, 0] rfl)
          · have h := it_f h c_84
            refine lv_aload_n hx hb dX3_one_154 rfl (lv_at hl 2 rfl) ?_
            refine lv_dup hx hb dX3_one_155 rfl ?_
            refine r_geti X hP 0 tw_c0 lk_3 21 (Nat.le_of_ble_eq_true rfl) q1659 tw_f21 dX3_one_156 ?_
            refine lv_iconst (v := (1 : Int32)) hx hb dX3_one_159 (by decide) ?_
            refine lv_iadd hx hb dX3_one_160 ?_
            refine r_puti X tw_w hP 0 tw_c0 lk_3 21 (Nat.le_of_ble_eq_true rfl) q1659 tw_f21 rfl (tyX3_ok 21 (by decide)) rfl rfl dX3_one_161 (fun σ_122 H locs e_123 hP => ?_)
            have h := st_k h e_123
            refine lv_aload_n hx hb dX3_one_164 rfl (lv_at hl 2 rfl) ?_
            refine r_geta X hP 0 tw_c0 lk_3 25 (Nat.le_of_ble_eq_true rfl) q1663 tw_f25 dX3_one_165 ?_
            refine lv_iload_n hx hb dX3_one_168 rfl (lv_at hl 0 rfl) ?_
            refine r_iald X hP 11 tw_c11 (ck_in h) dX3_one_169 ?_
            have h := ck_k h
            exact hret _ _ _ _ _ _ dX3_one_170 rfl (Option.some.inj h) hP
        · have h := it_t h c_81
          exact hK_4 _ _ _ _ h hP (lv_sub hl [1, 0] rfl)
  · have h := it_f h c_1
    refine lv_iconst (v := (0 : Int32)) hx hb dX3_one_7 (by decide) ?_
    exact hret _ _ _ _ _ _ dX3_one_8 rfl (Option.some.inj h) hP
def tw_one : Nat → ST → Option (Int32 × ST)
  | 0, _ => none
  | n + 1, σ => tw_oneB (tw_one n) σ
theorem mt_one (l : Launch) (G : GT) : ∀ (n : Nat) (σ : ST) {r : Int32} {u : ST}, tw_one n σ = some (r, u) → CI l tw_ft G yX3_one (ws_ yX3_one cX3_one 5 (some .int)) (rmf (n * 6) (n * 137)) 0 0 [.ref (G.2.2.1 0)] σ (r, u) := by
  intro n
  induction n with
  | zero => intro σ r u h; cases h
  | succ n ih =>
    intro σ r u h
    have h1 := mt_X3_one l G (tw_one n) (fun σ => ih σ) σ h
    rw [Nat.succ_mul, Nat.succ_mul]
    exact h1
def tw_ei (σ : ST) : Option (Int32 × ST) := tw_either (tw_one 8) σ
theorem mt_ei (l : Launch) (G : GT) (σ : ST) {r : Int32} {u : ST} (h : tw_ei σ = some (r, u)) : CI l tw_ft G yX3_either (ws_ yX3_either cX3_either 3 (some .int)) (rmf 53 1211) 0 0 [.ref (G.2.2.1 0)] σ (r, u) :=
  mt_X3_either l G (tw_one 8) (mt_one l G 8) σ h
def tw_undo (σ : ST)  : Option (Int32 × ST) :=
  (if (gI σ 0 5) = 0 then some ((-5 : Int32), σ) else st_ (pI σ 0 5 ((gI σ 0 5) - (1 : Int32))) (fun (σ_2 : ST) => ck (gI σ_2 0 5) 40 (ck (gI σ_2 0 5) 40 (ck (lI σ_2 0 1 (gI σ_2 0 5)) 42 (st_ (aI σ_2 0 0 (lI σ_2 0 1 (gI σ_2 0 5)) (lI σ_2 0 2 (gI σ_2 0 5))) (fun (σ_4 : ST) => some ((gI σ_4 0 5), σ_4)))))))
abbrev rm_X3_undo : Room := rmf 0 0
set_option maxHeartbeats 4000000 in
set_option maxRecDepth 100000 in
theorem mt_X3_undo (l : Launch) (G : GT) (σ : ST)  {r : Int32} {u : ST} (h : tw_undo σ = some (r, u)) : CI l tw_ft G yX3_undo (ws_ yX3_undo cX3_undo 1 (some .int)) rm_X3_undo 0 0 [.ref (G.2.2.1 0)] σ (r, u) := by
  refine m_enterI (by decide) rfl (lv := [(0, .ref (G.2.2.1 0))]) rfl ?_
  intro p e s m args below meth c H locs ls Q X hret hP hl
  have hx := X.1.1
  have hb := X.1.2.1
  have hown := X.1.2.2.2.1
  have hts := X.1.2.2.2.2
  unfold tw_undo at h
  refine lv_aload_n hx hb dX3_undo_0 rfl (lv_at hl 0 rfl) ?_
  refine r_geti X hP 0 tw_c0 lk_3 5 (Nat.le_of_ble_eq_true rfl) q1643 tw_f5 dX3_undo_1 ?_
  refine lv_if_ne (tgt := 10) hx hb dX3_undo_4 (by decide) (fun c_1 => ?_) (fun c_1 => ?_)
  · have h := it_f h c_1
    refine lv_aload_n hx hb dX3_undo_10 rfl (lv_at hl 0 rfl) ?_
    refine lv_dup hx hb dX3_undo_11 rfl ?_
    refine r_geti X hP 0 tw_c0 lk_3 5 (Nat.le_of_ble_eq_true rfl) q1643 tw_f5 dX3_undo_12 ?_
    refine lv_iconst (v := (1 : Int32)) hx hb dX3_undo_15 (by decide) ?_
    refine lv_isub hx hb dX3_undo_16 ?_
    refine r_puti X tw_w hP 0 tw_c0 lk_3 5 (Nat.le_of_ble_eq_true rfl) q1643 tw_f5 rfl (tyX3_ok 5 (by decide)) rfl rfl dX3_undo_17 (fun σ_2 H locs e_3 hP => ?_)
    have h := st_k h e_3
    refine lv_aload_n hx hb dX3_undo_20 rfl (lv_at hl 0 rfl) ?_
    refine r_geta X hP 0 tw_c0 lk_3 0 (Nat.le_of_ble_eq_true rfl) q1638 tw_f0 dX3_undo_21 ?_
    refine lv_aload_n hx hb dX3_undo_24 rfl (lv_at hl 0 rfl) ?_
    refine r_geta X hP 0 tw_c0 lk_3 1 (Nat.le_of_ble_eq_true rfl) q1639 tw_f1 dX3_undo_25 ?_
    refine lv_aload_n hx hb dX3_undo_28 rfl (lv_at hl 0 rfl) ?_
    refine r_geti X hP 0 tw_c0 lk_3 5 (Nat.le_of_ble_eq_true rfl) q1643 tw_f5 dX3_undo_29 ?_
    refine r_iald X hP 2 tw_c2 (ck_in h) dX3_undo_32 ?_
    have h := ck_k h
    refine lv_aload_n hx hb dX3_undo_33 rfl (lv_at hl 0 rfl) ?_
    refine r_geta X hP 0 tw_c0 lk_3 2 (Nat.le_of_ble_eq_true rfl) q1640 tw_f2 dX3_undo_34 ?_
    refine lv_aload_n hx hb dX3_undo_37 rfl (lv_at hl 0 rfl) ?_
    refine r_geti X hP 0 tw_c0 lk_3 5 (Nat.le_of_ble_eq_true rfl) q1643 tw_f5 dX3_undo_38 ?_
    refine r_iald X hP 3 tw_c3 (ck_in h) dX3_undo_41 ?_
    have h := ck_k h
    refine r_iast X tw_w hP 1 tw_c1 (ck_in h) dX3_undo_42 (fun σ_4 H locs e_5 hP => ?_)
    have h := st_k (ck_k h) e_5
    refine lv_aload_n hx hb dX3_undo_43 rfl (lv_at hl 0 rfl) ?_
    refine r_geti X hP 0 tw_c0 lk_3 5 (Nat.le_of_ble_eq_true rfl) q1643 tw_f5 dX3_undo_44 ?_
    exact hret _ _ _ _ _ _ dX3_undo_47 rfl (Option.some.inj h) hP
  · have h := it_t h c_1
    refine lv_bipush (v := (-5 : Int32)) hx hb dX3_undo_7 (by decide) ?_
    exact hret _ _ _ _ _ _ dX3_undo_9 rfl (Option.some.inj h) hP
def tw_redo (σ : ST)  : Option (Int32 × ST) :=
  (if (gI σ 0 5) = (gI σ 0 4) then some ((-5 : Int32), σ) else ck (gI σ 0 5) 40 (ck (gI σ 0 5) 40 (ck (lI σ 0 1 (gI σ 0 5)) 42 (st_ (aI σ 0 0 (lI σ 0 1 (gI σ 0 5)) (lI σ 0 3 (gI σ 0 5))) (fun (σ_2 : ST) => st_ (pI σ_2 0 5 ((gI σ_2 0 5) + (1 : Int32))) (fun (σ_4 : ST) => some (((gI σ_4 0 4) - (gI σ_4 0 5)), σ_4)))))))
abbrev rm_X3_redo : Room := rmf 0 0
set_option maxHeartbeats 4000000 in
set_option maxRecDepth 100000 in
theorem mt_X3_redo (l : Launch) (G : GT) (σ : ST)  {r : Int32} {u : ST} (h : tw_redo σ = some (r, u)) : CI l tw_ft G yX3_redo (ws_ yX3_redo cX3_redo 1 (some .int)) rm_X3_redo 0 0 [.ref (G.2.2.1 0)] σ (r, u) := by
  refine m_enterI (by decide) rfl (lv := [(0, .ref (G.2.2.1 0))]) rfl ?_
  intro p e s m args below meth c H locs ls Q X hret hP hl
  have hx := X.1.1
  have hb := X.1.2.1
  have hown := X.1.2.2.2.1
  have hts := X.1.2.2.2.2
  unfold tw_redo at h
  refine lv_aload_n hx hb dX3_redo_0 rfl (lv_at hl 0 rfl) ?_
  refine r_geti X hP 0 tw_c0 lk_3 5 (Nat.le_of_ble_eq_true rfl) q1643 tw_f5 dX3_redo_1 ?_
  refine lv_aload_n hx hb dX3_redo_4 rfl (lv_at hl 0 rfl) ?_
  refine r_geti X hP 0 tw_c0 lk_3 4 (Nat.le_of_ble_eq_true rfl) q1642 tw_f4 dX3_redo_5 ?_
  refine lv_icmp_ne (tgt := 14) hx hb dX3_redo_8 (by decide) (fun c_1 => ?_) (fun c_1 => ?_)
  · have h := it_f h c_1
    refine lv_aload_n hx hb dX3_redo_14 rfl (lv_at hl 0 rfl) ?_
    refine r_geta X hP 0 tw_c0 lk_3 0 (Nat.le_of_ble_eq_true rfl) q1638 tw_f0 dX3_redo_15 ?_
    refine lv_aload_n hx hb dX3_redo_18 rfl (lv_at hl 0 rfl) ?_
    refine r_geta X hP 0 tw_c0 lk_3 1 (Nat.le_of_ble_eq_true rfl) q1639 tw_f1 dX3_redo_19 ?_
    refine lv_aload_n hx hb dX3_redo_22 rfl (lv_at hl 0 rfl) ?_
    refine r_geti X hP 0 tw_c0 lk_3 5 (Nat.le_of_ble_eq_true rfl) q1643 tw_f5 dX3_redo_23 ?_
    refine r_iald X hP 2 tw_c2 (ck_in h) dX3_redo_26 ?_
    have h := ck_k h
    refine lv_aload_n hx hb dX3_redo_27 rfl (lv_at hl 0 rfl) ?_
    refine r_geta X hP 0 tw_c0 lk_3 3 (Nat.le_of_ble_eq_true rfl) q1641 tw_f3 dX3_redo_28 ?_
    refine lv_aload_n hx hb dX3_redo_31 rfl (lv_at hl 0 rfl) ?_
    refine r_geti X hP 0 tw_c0 lk_3 5 (Nat.le_of_ble_eq_true rfl) q1643 tw_f5 dX3_redo_32 ?_
    refine r_iald X hP 4 tw_c4 (ck_in h) dX3_redo_35 ?_
    have h := ck_k h
    refine r_iast X tw_w hP 1 tw_c1 (ck_in h) dX3_redo_36 (fun σ_2 H locs e_3 hP => ?_)
    have h := st_k (ck_k h) e_3
    refine lv_aload_n hx hb dX3_redo_37 rfl (lv_at hl 0 rfl) ?_
    refine lv_dup hx hb dX3_redo_38 rfl ?_
    refine r_geti X hP 0 tw_c0 lk_3 5 (Nat.le_of_ble_eq_true rfl) q1643 tw_f5 dX3_redo_39 ?_
    refine lv_iconst (v := (1 : Int32)) hx hb dX3_redo_42 (by decide) ?_
    refine lv_iadd hx hb dX3_redo_43 ?_
    refine r_puti X tw_w hP 0 tw_c0 lk_3 5 (Nat.le_of_ble_eq_true rfl) q1643 tw_f5 rfl (tyX3_ok 5 (by decide)) rfl rfl dX3_redo_44 (fun σ_4 H locs e_5 hP => ?_)
    have h := st_k h e_5
    refine lv_aload_n hx hb dX3_redo_47 rfl (lv_at hl 0 rfl) ?_
    refine r_geti X hP 0 tw_c0 lk_3 4 (Nat.le_of_ble_eq_true rfl) q1642 tw_f4 dX3_redo_48 ?_
    refine lv_aload_n hx hb dX3_redo_51 rfl (lv_at hl 0 rfl) ?_
    refine r_geti X hP 0 tw_c0 lk_3 5 (Nat.le_of_ble_eq_true rfl) q1643 tw_f5 dX3_redo_52 ?_
    refine lv_isub hx hb dX3_redo_55 ?_
    exact hret _ _ _ _ _ _ dX3_redo_56 rfl (Option.some.inj h) hP
  · have h := it_t h c_1
    refine lv_bipush (v := (-5 : Int32)) hx hb dX3_redo_11 (by decide) ?_
    exact hret _ _ _ _ _ _ dX3_redo_13 rfl (Option.some.inj h) hP
def tw_within (a0 : Int64) (a2 : Int64) (a4 : Int64) : Option Int32 :=
  (if (lg_cmp a0 a2) < 0 then some (0 : Int32) else (if 0 < (lg_cmp a0 a4) then some (0 : Int32) else some (1 : Int32)))
abbrev rm_X3_within : Room := rmf 0 0
set_option maxHeartbeats 4000000 in
set_option maxRecDepth 100000 in
theorem mt_X3_within (l : Launch) (G : GT) (σ : ST) (a0 : Int64) (a2 : Int64) (a4 : Int64) {r : Int32} (h : tw_within a0 a2 a4 = some r) : CI l tw_ft G yX3_within (ws_ yX3_within cX3_within 6 (some .boolean)) rm_X3_within 0 0 [.long a0, .long a2, .long a4] σ (r, σ) := by
  refine m_enterI (by decide) rfl (lv := [(0, .long a0), (2, .long a2), (4, .long a4)]) rfl ?_
  intro p e s m args below meth c H locs ls Q X hret hP hl
  have hx := X.1.1
  have hb := X.1.2.1
  have hown := X.1.2.2.2.1
  have hts := X.1.2.2.2.2
  unfold tw_within at h
  refine lv_lload_n hx hb dX3_within_0 rfl (lv_at hl 0 rfl) ?_
  refine lv_lload_n hx hb dX3_within_1 rfl (lv_at hl 1 rfl) ?_
  refine W.lcmp hx hb dX3_within_2 ?_
  refine lv_if_lt (tgt := 17) hx hb dX3_within_3 (by decide) (fun c_1 => ?_) (fun c_1 => ?_)
  · have h := it_t h c_1
    refine lv_iconst (v := (0 : Int32)) hx hb dX3_within_17 (by decide) ?_
    exact hret _ _ _ _ _ _ dX3_within_18 rfl (congrArg (fun z9 => (z9, σ)) (Option.some.inj h)) hP
  · have h := it_f h c_1
    refine lv_lload_n hx hb dX3_within_6 rfl (lv_at hl 0 rfl) ?_
    refine lv_lload hx hb dX3_within_7 (lv_at hl 2 rfl) ?_
    refine W.lcmp hx hb dX3_within_9 ?_
    refine lv_if_gt (tgt := 17) hx hb dX3_within_10 (by decide) (fun c_2 => ?_) (fun c_2 => ?_)
    · have h := it_t h c_2
      refine lv_iconst (v := (0 : Int32)) hx hb dX3_within_17 (by decide) ?_
      exact hret _ _ _ _ _ _ dX3_within_18 rfl (congrArg (fun z9 => (z9, σ)) (Option.some.inj h)) hP
    · have h := it_f h c_2
      refine lv_iconst (v := (1 : Int32)) hx hb dX3_within_13 (by decide) ?_
      refine lv_goto (tgt := 18) hx hb dX3_within_14 (by decide) ?_
      exact hret _ _ _ _ _ _ dX3_within_18 rfl (congrArg (fun z9 => (z9, σ)) (Option.some.inj h)) hP
def tw_person (σ : ST) (a1 : Int32) (a2 : Int32) : Option (Int32 × ST) :=
  bo (tw_within ((a1).toInt64) (0 : Int64) (99 : Int64)) (fun (r_2 : Int32) => (if r_2 = 0 then some ((-1 : Int32), σ) else bo (tw_within ((a2).toInt64) (0 : Int64) (9999 : Int64)) (fun (r_5 : Int32) => (if r_5 = 0 then some ((-1 : Int32), σ) else (if (gI σ 0 6) = (10 : Int32) then some ((-3 : Int32), σ) else nz (10 : Int32) (ck (gI σ 0 6) 42 (st_ (aI σ 0 0 (gI σ 0 6) (a1 / (10 : Int32))) (fun (σ_8 : ST) => nz (10 : Int32) (ck ((10 : Int32) + (gI σ_8 0 6)) 42 (st_ (aI σ_8 0 0 ((10 : Int32) + (gI σ_8 0 6)) (a1 - a1 / (10 : Int32) * (10 : Int32))) (fun (σ_10 : ST) => nz (100 : Int32) (ck (gI σ_10 0 6) 10 (st_ (aI σ_10 0 7 (gI σ_10 0 6) (a2 / (100 : Int32))) (fun (σ_12 : ST) => nz (100 : Int32) (ck ((20 : Int32) + (gI σ_12 0 6)) 42 (st_ (aI σ_12 0 0 ((20 : Int32) + (gI σ_12 0 6)) (a2 - a2 / (100 : Int32) * (100 : Int32))) (fun (σ_14 : ST) => st_ (pI σ_14 0 6 ((gI σ_14 0 6) + (1 : Int32))) (fun (σ_16 : ST) => some (((gI σ_16 0 6) - (1 : Int32)), σ_16)))))))))))))))))))
abbrev rm_X3_person : Room := rmf 1 25
set_option maxHeartbeats 4000000 in
set_option maxRecDepth 100000 in
theorem mt_X3_person (l : Launch) (G : GT) (σ : ST) (a1 : Int32) (a2 : Int32) {r : Int32} {u : ST} (h : tw_person σ a1 a2 = some (r, u)) : CI l tw_ft G yX3_person (ws_ yX3_person cX3_person 3 (some .int)) rm_X3_person 0 0 [.ref (G.2.2.1 0), .int a1, .int a2] σ (r, u) := by
  refine m_enterI (by decide) rfl (lv := [(0, .ref (G.2.2.1 0)), (1, .int a1), (2, .int a2)]) rfl ?_
  intro p e s m args below meth c H locs ls Q X hret hP hl
  have hx := X.1.1
  have hb := X.1.2.1
  have hown := X.1.2.2.2.1
  have hts := X.1.2.2.2.2
  unfold tw_person at h
  refine lv_iload_n hx hb dX3_person_0 rfl (lv_at hl 1 rfl) ?_
  refine lv_i2l hx hb dX3_person_1 rfl ?_
  refine lv_lconst (v := (0 : Int64)) hx hb dX3_person_2 (by decide) ?_
  refine lv_ldc2 hx hb hown (hts _ q1879) dX3_person_3 ?_
  obtain ⟨r_2, e_1, h⟩ := bo_ex h
  refine r_calli (r_runS (rest := []) X hP (mt_X3_within l G σ ((a1).toInt64) (0 : Int64) (99 : Int64) e_1) (va_cwS 3 hts (lw_S q1880 q1881 q113 q1882) rfl rfl rfl cdX3_within ⟨Nat.le_of_ble_eq_true rfl, Nat.le_of_ble_eq_true rfl⟩) rfl hl.1 rfl (Nat.le_of_ble_eq_true rfl) dX3_person_6 ⟨Nat.le_refl _, Nat.le_refl _⟩) hP (fun H locs hP => ?_)
  refine lv_if_eq (tgt := 24) hx hb dX3_person_9 (by decide) (fun c_3 => ?_) (fun c_3 => ?_)
  · have h := it_t h c_3
    refine lv_iconst (v := (-1 : Int32)) hx hb dX3_person_24 (by decide) ?_
    exact hret _ _ _ _ _ _ dX3_person_25 rfl (Option.some.inj h) hP
  · have h := it_f h c_3
    refine lv_iload_n hx hb dX3_person_12 rfl (lv_at hl 2 rfl) ?_
    refine lv_i2l hx hb dX3_person_13 rfl ?_
    refine lv_lconst (v := (0 : Int64)) hx hb dX3_person_14 (by decide) ?_
    refine lv_ldc2 hx hb hown (hts _ q1883) dX3_person_15 ?_
    obtain ⟨r_5, e_4, h⟩ := bo_ex h
    refine r_calli (r_runS (rest := []) X hP (mt_X3_within l G σ ((a2).toInt64) (0 : Int64) (9999 : Int64) e_4) (va_cwS 3 hts (lw_S q1880 q1881 q113 q1882) rfl rfl rfl cdX3_within ⟨Nat.le_of_ble_eq_true rfl, Nat.le_of_ble_eq_true rfl⟩) rfl hl.1 rfl (Nat.le_of_ble_eq_true rfl) dX3_person_18 ⟨Nat.le_refl _, Nat.le_refl _⟩) hP (fun H locs hP => ?_)
    refine lv_if_ne (tgt := 26) hx hb dX3_person_21 (by decide) (fun c_6 => ?_) (fun c_6 => ?_)
    · have h := it_f h c_6
      refine lv_aload_n hx hb dX3_person_26 rfl (lv_at hl 0 rfl) ?_
      refine r_geti X hP 0 tw_c0 lk_3 6 (Nat.le_of_ble_eq_true rfl) q1644 tw_f6 dX3_person_27 ?_
      refine lv_bipush (v := (10 : Int32)) hx hb dX3_person_30 (by decide) ?_
      refine lv_icmp_ne (tgt := 38) hx hb dX3_person_32 (by decide) (fun c_7 => ?_) (fun c_7 => ?_)
      · have h := it_f h c_7
        refine lv_aload_n hx hb dX3_person_38 rfl (lv_at hl 0 rfl) ?_
        refine r_geta X hP 0 tw_c0 lk_3 0 (Nat.le_of_ble_eq_true rfl) q1638 tw_f0 dX3_person_39 ?_
        refine lv_aload_n hx hb dX3_person_42 rfl (lv_at hl 0 rfl) ?_
        refine r_geti X hP 0 tw_c0 lk_3 6 (Nat.le_of_ble_eq_true rfl) q1644 tw_f6 dX3_person_43 ?_
        refine lv_iload_n hx hb dX3_person_46 rfl (lv_at hl 1 rfl) ?_
        refine lv_bipush (v := (10 : Int32)) hx hb dX3_person_47 (by decide) ?_
        refine lv_idiv hx hb dX3_person_49 (nz_ne h) ?_
        have h := nz_k h
        refine r_iast X tw_w hP 1 tw_c1 (ck_in h) dX3_person_50 (fun σ_8 H locs e_9 hP => ?_)
        have h := st_k (ck_k h) e_9
        refine lv_aload_n hx hb dX3_person_51 rfl (lv_at hl 0 rfl) ?_
        refine r_geta X hP 0 tw_c0 lk_3 0 (Nat.le_of_ble_eq_true rfl) q1638 tw_f0 dX3_person_52 ?_
        refine lv_bipush (v := (10 : Int32)) hx hb dX3_person_55 (by decide) ?_
        refine lv_aload_n hx hb dX3_person_57 rfl (lv_at hl 0 rfl) ?_
        refine r_geti X hP 0 tw_c0 lk_3 6 (Nat.le_of_ble_eq_true rfl) q1644 tw_f6 dX3_person_58 ?_
        refine lv_iadd hx hb dX3_person_61 ?_
        refine lv_iload_n hx hb dX3_person_62 rfl (lv_at hl 1 rfl) ?_
        refine lv_bipush (v := (10 : Int32)) hx hb dX3_person_63 (by decide) ?_
        refine lv_irem hx hb dX3_person_65 (nz_ne h) ?_
        have h := nz_k h
        refine r_iast X tw_w hP 1 tw_c1 (ck_in h) dX3_person_66 (fun σ_10 H locs e_11 hP => ?_)
        have h := st_k (ck_k h) e_11
        refine lv_aload_n hx hb dX3_person_67 rfl (lv_at hl 0 rfl) ?_
        refine r_geta X hP 0 tw_c0 lk_3 7 (Nat.le_of_ble_eq_true rfl) q1645 tw_f7 dX3_person_68 ?_
        refine lv_aload_n hx hb dX3_person_71 rfl (lv_at hl 0 rfl) ?_
        refine r_geti X hP 0 tw_c0 lk_3 6 (Nat.le_of_ble_eq_true rfl) q1644 tw_f6 dX3_person_72 ?_
        refine lv_iload_n hx hb dX3_person_75 rfl (lv_at hl 2 rfl) ?_
        refine lv_bipush (v := (100 : Int32)) hx hb dX3_person_76 (by decide) ?_
        refine lv_idiv hx hb dX3_person_78 (nz_ne h) ?_
        have h := nz_k h
        refine r_iast X tw_w hP 5 tw_c5 (ck_in h) dX3_person_79 (fun σ_12 H locs e_13 hP => ?_)
        have h := st_k (ck_k h) e_13
        refine lv_aload_n hx hb dX3_person_80 rfl (lv_at hl 0 rfl) ?_
        refine r_geta X hP 0 tw_c0 lk_3 0 (Nat.le_of_ble_eq_true rfl) q1638 tw_f0 dX3_person_81 ?_
        refine lv_bipush (v := (20 : Int32)) hx hb dX3_person_84 (by decide) ?_
        refine lv_aload_n hx hb dX3_person_86 rfl (lv_at hl 0 rfl) ?_
        refine r_geti X hP 0 tw_c0 lk_3 6 (Nat.le_of_ble_eq_true rfl) q1644 tw_f6 dX3_person_87 ?_
        refine lv_iadd hx hb dX3_person_90 ?_
        refine lv_iload_n hx hb dX3_person_91 rfl (lv_at hl 2 rfl) ?_
        refine lv_bipush (v := (100 : Int32)) hx hb dX3_person_92 (by decide) ?_
        refine lv_irem hx hb dX3_person_94 (nz_ne h) ?_
        have h := nz_k h
        refine r_iast X tw_w hP 1 tw_c1 (ck_in h) dX3_person_95 (fun σ_14 H locs e_15 hP => ?_)
        have h := st_k (ck_k h) e_15
        refine lv_aload_n hx hb dX3_person_96 rfl (lv_at hl 0 rfl) ?_
        refine lv_dup hx hb dX3_person_97 rfl ?_
        refine r_geti X hP 0 tw_c0 lk_3 6 (Nat.le_of_ble_eq_true rfl) q1644 tw_f6 dX3_person_98 ?_
        refine lv_iconst (v := (1 : Int32)) hx hb dX3_person_101 (by decide) ?_
        refine lv_iadd hx hb dX3_person_102 ?_
        refine r_puti X tw_w hP 0 tw_c0 lk_3 6 (Nat.le_of_ble_eq_true rfl) q1644 tw_f6 rfl (tyX3_ok 6 (by decide)) rfl rfl dX3_person_103 (fun σ_16 H locs e_17 hP => ?_)
        have h := st_k h e_17
        refine lv_aload_n hx hb dX3_person_106 rfl (lv_at hl 0 rfl) ?_
        refine r_geti X hP 0 tw_c0 lk_3 6 (Nat.le_of_ble_eq_true rfl) q1644 tw_f6 dX3_person_107 ?_
        refine lv_iconst (v := (1 : Int32)) hx hb dX3_person_110 (by decide) ?_
        refine lv_isub hx hb dX3_person_111 ?_
        exact hret _ _ _ _ _ _ dX3_person_112 rfl (Option.some.inj h) hP
      · have h := it_t h c_7
        refine lv_bipush (v := (-3 : Int32)) hx hb dX3_person_35 (by decide) ?_
        exact hret _ _ _ _ _ _ dX3_person_37 rfl (Option.some.inj h) hP
    · have h := it_t h c_6
      refine lv_iconst (v := (-1 : Int32)) hx hb dX3_person_24 (by decide) ?_
      exact hret _ _ _ _ _ _ dX3_person_25 rfl (Option.some.inj h) hP
def tw_isDigit1 (a0 : Int32) : Option Int32 :=
  bo (tw_within ((a0).toInt64) (0 : Int64) (9 : Int64)) (fun (r_2 : Int32) => bz r_2 (some r_2))
abbrev rm_X3_isDigit1 : Room := rmf 1 25
set_option maxHeartbeats 4000000 in
set_option maxRecDepth 100000 in
theorem mt_X3_isDigit1 (l : Launch) (G : GT) (σ : ST) (a0 : Int32) {r : Int32} (h : tw_isDigit1 a0 = some r) : CI l tw_ft G yX3_isDigit1 (ws_ yX3_isDigit1 cX3_isDigit1 1 (some .boolean)) rm_X3_isDigit1 0 0 [.int a0] σ (r, σ) := by
  refine m_enterI (by decide) rfl (lv := [(0, .int a0)]) rfl ?_
  intro p e s m args below meth c H locs ls Q X hret hP hl
  have hx := X.1.1
  have hb := X.1.2.1
  have hown := X.1.2.2.2.1
  have hts := X.1.2.2.2.2
  unfold tw_isDigit1 at h
  refine lv_iload_n hx hb dX3_isDigit1_0 rfl (lv_at hl 0 rfl) ?_
  refine lv_i2l hx hb dX3_isDigit1_1 rfl ?_
  refine lv_lconst (v := (0 : Int64)) hx hb dX3_isDigit1_2 (by decide) ?_
  refine lv_ldc2 hx hb hown (hts _ q1895) dX3_isDigit1_3 ?_
  obtain ⟨r_2, e_1, h⟩ := bo_ex h
  refine r_calli (r_runS (rest := []) X hP (mt_X3_within l G σ ((a0).toInt64) (0 : Int64) (9 : Int64) e_1) (va_cwS 3 hts (lw_S q1880 q1881 q113 q1882) rfl rfl rfl cdX3_within ⟨Nat.le_of_ble_eq_true rfl, Nat.le_of_ble_eq_true rfl⟩) rfl hl.1 rfl (Nat.le_of_ble_eq_true rfl) dX3_isDigit1_6 ⟨Nat.le_refl _, Nat.le_refl _⟩) hP (fun H locs hP => ?_)
  exact hret _ _ _ _ _ _ dX3_isDigit1_9 (bz_or h) (congrArg (fun z9 => (z9, σ)) (Option.some.inj (bz_k h))) hP
def tw_isWorth (a0 : Int32) : Option Int32 :=
  bo (tw_within ((a0).toInt64) (-99 : Int64) (99 : Int64)) (fun (r_2 : Int32) => bz r_2 (some r_2))
abbrev rm_X3_isWorth : Room := rmf 1 25
set_option maxHeartbeats 4000000 in
set_option maxRecDepth 100000 in
theorem mt_X3_isWorth (l : Launch) (G : GT) (σ : ST) (a0 : Int32) {r : Int32} (h : tw_isWorth a0 = some r) : CI l tw_ft G yX3_isWorth (ws_ yX3_isWorth cX3_isWorth 1 (some .boolean)) rm_X3_isWorth 0 0 [.int a0] σ (r, σ) := by
  refine m_enterI (by decide) rfl (lv := [(0, .int a0)]) rfl ?_
  intro p e s m args below meth c H locs ls Q X hret hP hl
  have hx := X.1.1
  have hb := X.1.2.1
  have hown := X.1.2.2.2.1
  have hts := X.1.2.2.2.2
  unfold tw_isWorth at h
  refine lv_iload_n hx hb dX3_isWorth_0 rfl (lv_at hl 0 rfl) ?_
  refine lv_i2l hx hb dX3_isWorth_1 rfl ?_
  refine lv_ldc2 hx hb hown (hts _ q1891) dX3_isWorth_2 ?_
  refine lv_ldc2 hx hb hown (hts _ q1879) dX3_isWorth_5 ?_
  obtain ⟨r_2, e_1, h⟩ := bo_ex h
  refine r_calli (r_runS (rest := []) X hP (mt_X3_within l G σ ((a0).toInt64) (-99 : Int64) (99 : Int64) e_1) (va_cwS 3 hts (lw_S q1880 q1881 q113 q1882) rfl rfl rfl cdX3_within ⟨Nat.le_of_ble_eq_true rfl, Nat.le_of_ble_eq_true rfl⟩) rfl hl.1 rfl (Nat.le_of_ble_eq_true rfl) dX3_isWorth_8 ⟨Nat.le_refl _, Nat.le_refl _⟩) hP (fun H locs hP => ?_)
  exact hret _ _ _ _ _ _ dX3_isWorth_11 (bz_or h) (congrArg (fun z9 => (z9, σ)) (Option.some.inj (bz_k h))) hP
def tw_thing (σ : ST) (a1 : Int32) (a2 : Int32) : Option (Int32 × ST) :=
  bo (tw_isWorth a1) (fun (r_2 : Int32) => (if r_2 = 0 then some ((-1 : Int32), σ) else bo (tw_isDigit1 a2) (fun (r_5 : Int32) => (if r_5 = 0 then some ((-1 : Int32), σ) else (if (gI σ 0 8) = (6 : Int32) then some ((-3 : Int32), σ) else ck ((30 : Int32) + (gI σ 0 8)) 42 (st_ (aI σ 0 0 ((30 : Int32) + (gI σ 0 8)) a1) (fun (σ_8 : ST) => ck ((36 : Int32) + (gI σ_8 0 8)) 42 (st_ (aI σ_8 0 0 ((36 : Int32) + (gI σ_8 0 8)) a2) (fun (σ_10 : ST) => st_ (pI σ_10 0 8 ((gI σ_10 0 8) + (1 : Int32))) (fun (σ_12 : ST) => some (((gI σ_12 0 8) - (1 : Int32)), σ_12)))))))))))
abbrev rm_X3_thing : Room := rmf 2 45
set_option maxHeartbeats 4000000 in
set_option maxRecDepth 100000 in
theorem mt_X3_thing (l : Launch) (G : GT) (σ : ST) (a1 : Int32) (a2 : Int32) {r : Int32} {u : ST} (h : tw_thing σ a1 a2 = some (r, u)) : CI l tw_ft G yX3_thing (ws_ yX3_thing cX3_thing 3 (some .int)) rm_X3_thing 0 0 [.ref (G.2.2.1 0), .int a1, .int a2] σ (r, u) := by
  refine m_enterI (by decide) rfl (lv := [(0, .ref (G.2.2.1 0)), (1, .int a1), (2, .int a2)]) rfl ?_
  intro p e s m args below meth c H locs ls Q X hret hP hl
  have hx := X.1.1
  have hb := X.1.2.1
  have hown := X.1.2.2.2.1
  have hts := X.1.2.2.2.2
  unfold tw_thing at h
  refine lv_iload_n hx hb dX3_thing_0 rfl (lv_at hl 1 rfl) ?_
  obtain ⟨r_2, e_1, h⟩ := bo_ex h
  refine r_calli (r_runS (rest := []) X hP (mt_X3_isWorth l G σ a1 e_1) (va_cwS 1 hts (lw_S q1888 q1889 q113 q1890) rfl rfl rfl cdX3_isWorth ⟨Nat.le_of_ble_eq_true rfl, Nat.le_of_ble_eq_true rfl⟩) rfl hl.1 rfl (Nat.le_of_ble_eq_true rfl) dX3_thing_1 ⟨Nat.le_refl _, Nat.le_refl _⟩) hP (fun H locs hP => ?_)
  refine lv_if_eq (tgt := 14) hx hb dX3_thing_4 (by decide) (fun c_3 => ?_) (fun c_3 => ?_)
  · have h := it_t h c_3
    refine lv_iconst (v := (-1 : Int32)) hx hb dX3_thing_14 (by decide) ?_
    exact hret _ _ _ _ _ _ dX3_thing_15 rfl (Option.some.inj h) hP
  · have h := it_f h c_3
    refine lv_iload_n hx hb dX3_thing_7 rfl (lv_at hl 2 rfl) ?_
    obtain ⟨r_5, e_4, h⟩ := bo_ex h
    refine r_calli (r_runS (rest := []) X hP (mt_X3_isDigit1 l G σ a2 e_4) (va_cwS 1 hts (lw_S q1892 q1893 q113 q1894) rfl rfl rfl cdX3_isDigit1 ⟨Nat.le_of_ble_eq_true rfl, Nat.le_of_ble_eq_true rfl⟩) rfl hl.1 rfl (Nat.le_of_ble_eq_true rfl) dX3_thing_8 ⟨Nat.le_refl _, Nat.le_refl _⟩) hP (fun H locs hP => ?_)
    refine lv_if_ne (tgt := 16) hx hb dX3_thing_11 (by decide) (fun c_6 => ?_) (fun c_6 => ?_)
    · have h := it_f h c_6
      refine lv_aload_n hx hb dX3_thing_16 rfl (lv_at hl 0 rfl) ?_
      refine r_geti X hP 0 tw_c0 lk_3 8 (Nat.le_of_ble_eq_true rfl) q1646 tw_f8 dX3_thing_17 ?_
      refine lv_bipush (v := (6 : Int32)) hx hb dX3_thing_20 (by decide) ?_
      refine lv_icmp_ne (tgt := 28) hx hb dX3_thing_22 (by decide) (fun c_7 => ?_) (fun c_7 => ?_)
      · have h := it_f h c_7
        refine lv_aload_n hx hb dX3_thing_28 rfl (lv_at hl 0 rfl) ?_
        refine r_geta X hP 0 tw_c0 lk_3 0 (Nat.le_of_ble_eq_true rfl) q1638 tw_f0 dX3_thing_29 ?_
        refine lv_bipush (v := (30 : Int32)) hx hb dX3_thing_32 (by decide) ?_
        refine lv_aload_n hx hb dX3_thing_34 rfl (lv_at hl 0 rfl) ?_
        refine r_geti X hP 0 tw_c0 lk_3 8 (Nat.le_of_ble_eq_true rfl) q1646 tw_f8 dX3_thing_35 ?_
        refine lv_iadd hx hb dX3_thing_38 ?_
        refine lv_iload_n hx hb dX3_thing_39 rfl (lv_at hl 1 rfl) ?_
        refine r_iast X tw_w hP 1 tw_c1 (ck_in h) dX3_thing_40 (fun σ_8 H locs e_9 hP => ?_)
        have h := st_k (ck_k h) e_9
        refine lv_aload_n hx hb dX3_thing_41 rfl (lv_at hl 0 rfl) ?_
        refine r_geta X hP 0 tw_c0 lk_3 0 (Nat.le_of_ble_eq_true rfl) q1638 tw_f0 dX3_thing_42 ?_
        refine lv_bipush (v := (36 : Int32)) hx hb dX3_thing_45 (by decide) ?_
        refine lv_aload_n hx hb dX3_thing_47 rfl (lv_at hl 0 rfl) ?_
        refine r_geti X hP 0 tw_c0 lk_3 8 (Nat.le_of_ble_eq_true rfl) q1646 tw_f8 dX3_thing_48 ?_
        refine lv_iadd hx hb dX3_thing_51 ?_
        refine lv_iload_n hx hb dX3_thing_52 rfl (lv_at hl 2 rfl) ?_
        refine r_iast X tw_w hP 1 tw_c1 (ck_in h) dX3_thing_53 (fun σ_10 H locs e_11 hP => ?_)
        have h := st_k (ck_k h) e_11
        refine lv_aload_n hx hb dX3_thing_54 rfl (lv_at hl 0 rfl) ?_
        refine lv_dup hx hb dX3_thing_55 rfl ?_
        refine r_geti X hP 0 tw_c0 lk_3 8 (Nat.le_of_ble_eq_true rfl) q1646 tw_f8 dX3_thing_56 ?_
        refine lv_iconst (v := (1 : Int32)) hx hb dX3_thing_59 (by decide) ?_
        refine lv_iadd hx hb dX3_thing_60 ?_
        refine r_puti X tw_w hP 0 tw_c0 lk_3 8 (Nat.le_of_ble_eq_true rfl) q1646 tw_f8 rfl (tyX3_ok 8 (by decide)) rfl rfl dX3_thing_61 (fun σ_12 H locs e_13 hP => ?_)
        have h := st_k h e_13
        refine lv_aload_n hx hb dX3_thing_64 rfl (lv_at hl 0 rfl) ?_
        refine r_geti X hP 0 tw_c0 lk_3 8 (Nat.le_of_ble_eq_true rfl) q1646 tw_f8 dX3_thing_65 ?_
        refine lv_iconst (v := (1 : Int32)) hx hb dX3_thing_68 (by decide) ?_
        refine lv_isub hx hb dX3_thing_69 ?_
        exact hret _ _ _ _ _ _ dX3_thing_70 rfl (Option.some.inj h) hP
      · have h := it_t h c_7
        refine lv_bipush (v := (-3 : Int32)) hx hb dX3_thing_25 (by decide) ?_
        exact hret _ _ _ _ _ _ dX3_thing_27 rfl (Option.some.inj h) hP
    · have h := it_t h c_6
      refine lv_iconst (v := (-1 : Int32)) hx hb dX3_thing_14 (by decide) ?_
      exact hret _ _ _ _ _ _ dX3_thing_15 rfl (Option.some.inj h) hP
def tw_adds (σ : ST) (a1 : Int32) (a2 : Int32) (a3 : Int32) : Option ST :=
  ck (gI σ 0 9) 20 (st_ (aI σ 0 10 (gI σ 0 9) a1) (fun (σ_1 : ST) => ck (gI σ_1 0 9) 20 (st_ (aI σ_1 0 11 (gI σ_1 0 9) a2) (fun (σ_3 : ST) => ck (gI σ_3 0 9) 20 (st_ (aI σ_3 0 12 (gI σ_3 0 9) a3) (fun (σ_5 : ST) => st_ (pI σ_5 0 9 ((gI σ_5 0 9) + (1 : Int32))) (fun (σ_7 : ST) => some σ_7)))))))
abbrev rm_X3_adds : Room := rmf 0 0
set_option maxHeartbeats 4000000 in
set_option maxRecDepth 100000 in
theorem mt_X3_adds (l : Launch) (G : GT) (σ : ST) (a1 : Int32) (a2 : Int32) (a3 : Int32) {u : ST} (h : tw_adds σ a1 a2 a3 = some u) : CV l tw_ft G yX3_adds (ws_ yX3_adds cX3_adds 4 none) rm_X3_adds 0 0 [.ref (G.2.2.1 0), .int a1, .int a2, .int a3] σ u := by
  refine m_enterV (by decide) rfl (lv := [(0, .ref (G.2.2.1 0)), (1, .int a1), (2, .int a2), (3, .int a3)]) rfl ?_
  intro p e s m args below meth c H locs ls Q X hnm hret hP hl
  have hx := X.1.1
  have hb := X.1.2.1
  have hown := X.1.2.2.2.1
  have hts := X.1.2.2.2.2
  unfold tw_adds at h
  refine lv_aload_n hx hb dX3_adds_0 rfl (lv_at hl 0 rfl) ?_
  refine r_geta X hP 0 tw_c0 lk_3 10 (Nat.le_of_ble_eq_true rfl) q1648 tw_f10 dX3_adds_1 ?_
  refine lv_aload_n hx hb dX3_adds_4 rfl (lv_at hl 0 rfl) ?_
  refine r_geti X hP 0 tw_c0 lk_3 9 (Nat.le_of_ble_eq_true rfl) q1647 tw_f9 dX3_adds_5 ?_
  refine lv_iload_n hx hb dX3_adds_8 rfl (lv_at hl 1 rfl) ?_
  refine r_iast X tw_w hP 6 tw_c6 (ck_in h) dX3_adds_9 (fun σ_1 H locs e_2 hP => ?_)
  have h := st_k (ck_k h) e_2
  refine lv_aload_n hx hb dX3_adds_10 rfl (lv_at hl 0 rfl) ?_
  refine r_geta X hP 0 tw_c0 lk_3 11 (Nat.le_of_ble_eq_true rfl) q1649 tw_f11 dX3_adds_11 ?_
  refine lv_aload_n hx hb dX3_adds_14 rfl (lv_at hl 0 rfl) ?_
  refine r_geti X hP 0 tw_c0 lk_3 9 (Nat.le_of_ble_eq_true rfl) q1647 tw_f9 dX3_adds_15 ?_
  refine lv_iload_n hx hb dX3_adds_18 rfl (lv_at hl 2 rfl) ?_
  refine r_iast X tw_w hP 7 tw_c7 (ck_in h) dX3_adds_19 (fun σ_3 H locs e_4 hP => ?_)
  have h := st_k (ck_k h) e_4
  refine lv_aload_n hx hb dX3_adds_20 rfl (lv_at hl 0 rfl) ?_
  refine r_geta X hP 0 tw_c0 lk_3 12 (Nat.le_of_ble_eq_true rfl) q1650 tw_f12 dX3_adds_21 ?_
  refine lv_aload_n hx hb dX3_adds_24 rfl (lv_at hl 0 rfl) ?_
  refine r_geti X hP 0 tw_c0 lk_3 9 (Nat.le_of_ble_eq_true rfl) q1647 tw_f9 dX3_adds_25 ?_
  refine lv_iload_n hx hb dX3_adds_28 rfl (lv_at hl 3 rfl) ?_
  refine r_iast X tw_w hP 8 tw_c8 (ck_in h) dX3_adds_29 (fun σ_5 H locs e_6 hP => ?_)
  have h := st_k (ck_k h) e_6
  refine lv_aload_n hx hb dX3_adds_30 rfl (lv_at hl 0 rfl) ?_
  refine lv_dup hx hb dX3_adds_31 rfl ?_
  refine r_geti X hP 0 tw_c0 lk_3 9 (Nat.le_of_ble_eq_true rfl) q1647 tw_f9 dX3_adds_32 ?_
  refine lv_iconst (v := (1 : Int32)) hx hb dX3_adds_35 (by decide) ?_
  refine lv_iadd hx hb dX3_adds_36 ?_
  refine r_puti X tw_w hP 0 tw_c0 lk_3 9 (Nat.le_of_ble_eq_true rfl) q1647 tw_f9 rfl (tyX3_ok 9 (by decide)) rfl rfl dX3_adds_37 (fun σ_7 H locs e_8 hP => ?_)
  have h := st_k h e_8
  exact hret _ _ _ _ _ dX3_adds_40 (Option.some.inj h) hP
def tw_isOne (σ : ST) (a1 : Int64) (a3 : Int64) (a5 : Int64) : Option Int32 :=
  bo (tw_within a1 (0 : Int64) ((((gI σ 0 8) - (1 : Int32))).toInt64)) (fun (r_2 : Int32) => (if r_2 = 0 then some (0 : Int32) else bo (tw_within a3 (-9 : Int64) (9 : Int64)) (fun (r_5 : Int32) => (if r_5 = 0 then some (0 : Int32) else bo (tw_within a5 (0 : Int64) (1023 : Int64)) (fun (r_8 : Int32) => (if r_8 = 0 then some (0 : Int32) else some (1 : Int32)))))))
abbrev rm_X3_isOne : Room := rmf 1 25
set_option maxHeartbeats 4000000 in
set_option maxRecDepth 100000 in
theorem mt_X3_isOne (l : Launch) (G : GT) (σ : ST) (a1 : Int64) (a3 : Int64) (a5 : Int64) {r : Int32} (h : tw_isOne σ a1 a3 a5 = some r) : CI l tw_ft G yX3_isOne (ws_ yX3_isOne cX3_isOne 7 (some .boolean)) rm_X3_isOne 0 0 [.ref (G.2.2.1 0), .long a1, .long a3, .long a5] σ (r, σ) := by
  refine m_enterI (by decide) rfl (lv := [(0, .ref (G.2.2.1 0)), (1, .long a1), (3, .long a3), (5, .long a5)]) rfl ?_
  intro p e s m args below meth c H locs ls Q X hret hP hl
  have hx := X.1.1
  have hb := X.1.2.1
  have hown := X.1.2.2.2.1
  have hts := X.1.2.2.2.2
  unfold tw_isOne at h
  refine lv_lload_n hx hb dX3_isOne_0 rfl (lv_at hl 1 rfl) ?_
  refine lv_lconst (v := (0 : Int64)) hx hb dX3_isOne_1 (by decide) ?_
  refine lv_aload_n hx hb dX3_isOne_2 rfl (lv_at hl 0 rfl) ?_
  refine r_geti X hP 0 tw_c0 lk_3 8 (Nat.le_of_ble_eq_true rfl) q1646 tw_f8 dX3_isOne_3 ?_
  refine lv_iconst (v := (1 : Int32)) hx hb dX3_isOne_6 (by decide) ?_
  refine lv_isub hx hb dX3_isOne_7 ?_
  refine lv_i2l hx hb dX3_isOne_8 rfl ?_
  obtain ⟨r_2, e_1, h⟩ := bo_ex h
  refine r_calli (r_runS (rest := []) X hP (mt_X3_within l G σ a1 (0 : Int64) ((((gI σ 0 8) - (1 : Int32))).toInt64) e_1) (va_cwS 3 hts (lw_S q1880 q1881 q113 q1882) rfl rfl rfl cdX3_within ⟨Nat.le_of_ble_eq_true rfl, Nat.le_of_ble_eq_true rfl⟩) rfl hl.1 rfl (Nat.le_of_ble_eq_true rfl) dX3_isOne_9 ⟨Nat.le_refl _, Nat.le_refl _⟩) hP (fun H locs hP => ?_)
  refine lv_if_eq (tgt := 44) hx hb dX3_isOne_12 (by decide) (fun c_3 => ?_) (fun c_3 => ?_)
  · have h := it_t h c_3
    refine lv_iconst (v := (0 : Int32)) hx hb dX3_isOne_44 (by decide) ?_
    exact hret _ _ _ _ _ _ dX3_isOne_45 rfl (congrArg (fun z9 => (z9, σ)) (Option.some.inj h)) hP
  · have h := it_f h c_3
    refine lv_lload_n hx hb dX3_isOne_15 rfl (lv_at hl 2 rfl) ?_
    refine lv_ldc2 hx hb hown (hts _ q1904) dX3_isOne_16 ?_
    refine lv_ldc2 hx hb hown (hts _ q1895) dX3_isOne_19 ?_
    obtain ⟨r_5, e_4, h⟩ := bo_ex h
    refine r_calli (r_runS (rest := []) X hP (mt_X3_within l G σ a3 (-9 : Int64) (9 : Int64) e_4) (va_cwS 3 hts (lw_S q1880 q1881 q113 q1882) rfl rfl rfl cdX3_within ⟨Nat.le_of_ble_eq_true rfl, Nat.le_of_ble_eq_true rfl⟩) rfl hl.1 rfl (Nat.le_of_ble_eq_true rfl) dX3_isOne_22 ⟨Nat.le_refl _, Nat.le_refl _⟩) hP (fun H locs hP => ?_)
    refine lv_if_eq (tgt := 44) hx hb dX3_isOne_25 (by decide) (fun c_6 => ?_) (fun c_6 => ?_)
    · have h := it_t h c_6
      refine lv_iconst (v := (0 : Int32)) hx hb dX3_isOne_44 (by decide) ?_
      exact hret _ _ _ _ _ _ dX3_isOne_45 rfl (congrArg (fun z9 => (z9, σ)) (Option.some.inj h)) hP
    · have h := it_f h c_6
      refine lv_lload hx hb dX3_isOne_28 (lv_at hl 3 rfl) ?_
      refine lv_lconst (v := (0 : Int64)) hx hb dX3_isOne_30 (by decide) ?_
      refine lv_ldc2 hx hb hown (hts _ q1905) dX3_isOne_31 ?_
      obtain ⟨r_8, e_7, h⟩ := bo_ex h
      refine r_calli (r_runS (rest := []) X hP (mt_X3_within l G σ a5 (0 : Int64) (1023 : Int64) e_7) (va_cwS 3 hts (lw_S q1880 q1881 q113 q1882) rfl rfl rfl cdX3_within ⟨Nat.le_of_ble_eq_true rfl, Nat.le_of_ble_eq_true rfl⟩) rfl hl.1 rfl (Nat.le_of_ble_eq_true rfl) dX3_isOne_34 ⟨Nat.le_refl _, Nat.le_refl _⟩) hP (fun H locs hP => ?_)
      refine lv_if_eq (tgt := 44) hx hb dX3_isOne_37 (by decide) (fun c_9 => ?_) (fun c_9 => ?_)
      · have h := it_t h c_9
        refine lv_iconst (v := (0 : Int32)) hx hb dX3_isOne_44 (by decide) ?_
        exact hret _ _ _ _ _ _ dX3_isOne_45 rfl (congrArg (fun z9 => (z9, σ)) (Option.some.inj h)) hP
      · have h := it_f h c_9
        refine lv_iconst (v := (1 : Int32)) hx hb dX3_isOne_40 (by decide) ?_
        refine lv_goto (tgt := 45) hx hb dX3_isOne_41 (by decide) ?_
        exact hret _ _ _ _ _ _ dX3_isOne_45 rfl (congrArg (fun z9 => (z9, σ)) (Option.some.inj h)) hP
def tw_card (σ : ST) (a1 : Int32) (a2 : Int32) (a3 : Int32) : Option (Int32 × ST) :=
  bo (tw_isOne σ ((a1).toInt64) ((a2).toInt64) ((a3).toInt64)) (fun (r_2 : Int32) => (if r_2 = 0 then some ((-1 : Int32), σ) else (if (gI σ 0 9) = (20 : Int32) then some ((-3 : Int32), σ) else bo (tw_adds σ a1 a2 a3) (fun (σ_6 : ST) => some (((gI σ_6 0 9) - (1 : Int32)), σ_6)))))
abbrev rm_X3_card : Room := rmf 2 51
set_option maxHeartbeats 4000000 in
set_option maxRecDepth 100000 in
theorem mt_X3_card (l : Launch) (G : GT) (σ : ST) (a1 : Int32) (a2 : Int32) (a3 : Int32) {r : Int32} {u : ST} (h : tw_card σ a1 a2 a3 = some (r, u)) : CI l tw_ft G yX3_card (ws_ yX3_card cX3_card 4 (some .int)) rm_X3_card 0 0 [.ref (G.2.2.1 0), .int a1, .int a2, .int a3] σ (r, u) := by
  refine m_enterI (by decide) rfl (lv := [(0, .ref (G.2.2.1 0)), (1, .int a1), (2, .int a2), (3, .int a3)]) rfl ?_
  intro p e s m args below meth c H locs ls Q X hret hP hl
  have hx := X.1.1
  have hb := X.1.2.1
  have hown := X.1.2.2.2.1
  have hts := X.1.2.2.2.2
  unfold tw_card at h
  refine lv_aload_n hx hb dX3_card_0 rfl (lv_at hl 0 rfl) ?_
  refine lv_iload_n hx hb dX3_card_1 rfl (lv_at hl 1 rfl) ?_
  refine lv_i2l hx hb dX3_card_2 rfl ?_
  refine lv_iload_n hx hb dX3_card_3 rfl (lv_at hl 2 rfl) ?_
  refine lv_i2l hx hb dX3_card_4 rfl ?_
  refine lv_iload_n hx hb dX3_card_5 rfl (lv_at hl 3 rfl) ?_
  refine lv_i2l hx hb dX3_card_6 rfl ?_
  obtain ⟨r_2, e_1, h⟩ := bo_ex h
  refine r_calli (r_runV (rest := []) X hP 0 tw_c0 lk_3 (mt_X3_isOne l G σ ((a1).toInt64) ((a2).toInt64) ((a3).toInt64) e_1) (cwV 3 hts (lw_V q1900 q1902 qs49 q113 q1903) rfl rfl rfl ⟨rfl, cdX3_isOne⟩ ⟨Nat.le_of_ble_eq_true rfl, Nat.le_of_ble_eq_true rfl⟩) rfl hl.1 rfl (Nat.le_of_ble_eq_true rfl) dX3_card_7 ⟨Nat.le_refl _, Nat.le_refl _⟩) hP (fun H locs hP => ?_)
  refine lv_if_ne (tgt := 15) hx hb dX3_card_10 (by decide) (fun c_3 => ?_) (fun c_3 => ?_)
  · have h := it_f h c_3
    refine lv_aload_n hx hb dX3_card_15 rfl (lv_at hl 0 rfl) ?_
    refine r_geti X hP 0 tw_c0 lk_3 9 (Nat.le_of_ble_eq_true rfl) q1647 tw_f9 dX3_card_16 ?_
    refine lv_bipush (v := (20 : Int32)) hx hb dX3_card_19 (by decide) ?_
    refine lv_icmp_ne (tgt := 27) hx hb dX3_card_21 (by decide) (fun c_4 => ?_) (fun c_4 => ?_)
    · have h := it_f h c_4
      refine lv_aload_n hx hb dX3_card_27 rfl (lv_at hl 0 rfl) ?_
      refine lv_iload_n hx hb dX3_card_28 rfl (lv_at hl 1 rfl) ?_
      refine lv_iload_n hx hb dX3_card_29 rfl (lv_at hl 2 rfl) ?_
      refine lv_iload_n hx hb dX3_card_30 rfl (lv_at hl 3 rfl) ?_
      obtain ⟨σ_6, e_5, h⟩ := bo_ex h
      refine r_callv (r_runV (rest := []) X hP 0 tw_c0 lk_3 (mt_X3_adds l G σ a1 a2 a3 e_5) (cwV 3 hts (lw_V q1906 q1908 qs50 q113 q1909) rfl rfl rfl ⟨rfl, cdX3_adds⟩ ⟨Nat.le_of_ble_eq_true rfl, Nat.le_of_ble_eq_true rfl⟩) rfl hl.1 rfl (Nat.le_of_ble_eq_true rfl) dX3_card_31 ⟨Nat.le_refl _, Nat.le_refl _⟩) hP (fun H locs hP => ?_)
      refine lv_aload_n hx hb dX3_card_34 rfl (lv_at hl 0 rfl) ?_
      refine r_geti X hP 0 tw_c0 lk_3 9 (Nat.le_of_ble_eq_true rfl) q1647 tw_f9 dX3_card_35 ?_
      refine lv_iconst (v := (1 : Int32)) hx hb dX3_card_38 (by decide) ?_
      refine lv_isub hx hb dX3_card_39 ?_
      exact hret _ _ _ _ _ _ dX3_card_40 rfl (Option.some.inj h) hP
    · have h := it_t h c_4
      refine lv_bipush (v := (-3 : Int32)) hx hb dX3_card_24 (by decide) ?_
      exact hret _ _ _ _ _ _ dX3_card_26 rfl (Option.some.inj h) hP
  · have h := it_t h c_3
    refine lv_iconst (v := (-1 : Int32)) hx hb dX3_card_13 (by decide) ?_
    exact hret _ _ _ _ _ _ dX3_card_14 rfl (Option.some.inj h) hP
def tw_isShelf (a0 : Int32) : Option Int32 :=
  bo (tw_within ((a0).toInt64) (0 : Int64) (5 : Int64)) (fun (r_2 : Int32) => bz r_2 (some r_2))
abbrev rm_X3_isShelf : Room := rmf 1 25
set_option maxHeartbeats 4000000 in
set_option maxRecDepth 100000 in
theorem mt_X3_isShelf (l : Launch) (G : GT) (σ : ST) (a0 : Int32) {r : Int32} (h : tw_isShelf a0 = some r) : CI l tw_ft G yX3_isShelf (ws_ yX3_isShelf cX3_isShelf 1 (some .boolean)) rm_X3_isShelf 0 0 [.int a0] σ (r, σ) := by
  refine m_enterI (by decide) rfl (lv := [(0, .int a0)]) rfl ?_
  intro p e s m args below meth c H locs ls Q X hret hP hl
  have hx := X.1.1
  have hb := X.1.2.1
  have hown := X.1.2.2.2.1
  have hts := X.1.2.2.2.2
  unfold tw_isShelf at h
  refine lv_iload_n hx hb dX3_isShelf_0 rfl (lv_at hl 0 rfl) ?_
  refine lv_i2l hx hb dX3_isShelf_1 rfl ?_
  refine lv_lconst (v := (0 : Int64)) hx hb dX3_isShelf_2 (by decide) ?_
  refine lv_ldc2 hx hb hown (hts _ q1917) dX3_isShelf_3 ?_
  obtain ⟨r_2, e_1, h⟩ := bo_ex h
  refine r_calli (r_runS (rest := []) X hP (mt_X3_within l G σ ((a0).toInt64) (0 : Int64) (5 : Int64) e_1) (va_cwS 3 hts (lw_S q1880 q1881 q113 q1882) rfl rfl rfl cdX3_within ⟨Nat.le_of_ble_eq_true rfl, Nat.le_of_ble_eq_true rfl⟩) rfl hl.1 rfl (Nat.le_of_ble_eq_true rfl) dX3_isShelf_6 ⟨Nat.le_refl _, Nat.le_refl _⟩) hP (fun H locs hP => ?_)
  exact hret _ _ _ _ _ _ dX3_isShelf_9 (bz_or h) (congrArg (fun z9 => (z9, σ)) (Option.some.inj (bz_k h))) hP
def tw_cards_B69 (l1 : Int32) (l2 : Int32) (l3 : Int32) (rc69 : Int32 → Int32 → ST → Option (Int32 × ST)) (w4 : Int32) (w5 : Int32) (σ : ST) : Option (Int32 × ST) :=
  (if w5 = 0 then some (w4, σ) else (if l3 ≤ w4 then some (w4, σ) else ck l1 6 (bo (if (((lI σ 0 73 l1) - (3 : Int32)) - ((3 : Int32) * w4)) < l2 then some ((0 : Int32)) else (if (20 : Int32) ≤ (gI σ 0 9) then some ((0 : Int32)) else some ((1 : Int32)))) (fun (x_13 : Int32) => bo (if x_13 = 0 then some ((0 : Int32)) else ck ((((60 : Int32) * l1) + l2) + ((3 : Int32) * w4)) 360 (ck (((((60 : Int32) * l1) + l2) + ((3 : Int32) * w4)) + (1 : Int32)) 360 (ck (((((60 : Int32) * l1) + l2) + ((3 : Int32) * w4)) + (2 : Int32)) 360 (bo (tw_isOne σ (lL σ 0 74 ((((60 : Int32) * l1) + l2) + ((3 : Int32) * w4))) (lL σ 0 74 (((((60 : Int32) * l1) + l2) + ((3 : Int32) * w4)) + (1 : Int32))) (lL σ 0 74 (((((60 : Int32) * l1) + l2) + ((3 : Int32) * w4)) + (2 : Int32)))) (fun (r_28 : Int32) => (if r_28 = 0 then some ((0 : Int32)) else some ((1 : Int32)))))))) (fun (x_16 : Int32) => bo2 (if x_16 = 0 then some (w4, σ) else ck ((((60 : Int32) * l1) + l2) + ((3 : Int32) * w4)) 360 (ck (((((60 : Int32) * l1) + l2) + ((3 : Int32) * w4)) + (1 : Int32)) 360 (ck (((((60 : Int32) * l1) + l2) + ((3 : Int32) * w4)) + (2 : Int32)) 360 (bo (tw_adds σ (((lL σ 0 74 ((((60 : Int32) * l1) + l2) + ((3 : Int32) * w4)))).toInt32) (((lL σ 0 74 (((((60 : Int32) * l1) + l2) + ((3 : Int32) * w4)) + (1 : Int32)))).toInt32) (((lL σ 0 74 (((((60 : Int32) * l1) + l2) + ((3 : Int32) * w4)) + (2 : Int32)))).toInt32)) (fun (σ_25 : ST) => some ((w4 + (1 : Int32)), σ_25)))))) (fun (y_19 : Int32) (σ_20 : ST) => (rc69 y_19 x_16 σ_20)))))))
def tw_cards_K44 (σ : ST) (k1 : Int32) (k2 : Int32) (k3 : Int32) : Option (Int32 × ST) :=
  ck k1 6 (bo (if (lI σ 0 72 k1) = (51 : Int32) then (if k2 < 0 then some ((0 : Int32)) else some ((1 : Int32))) else some ((0 : Int32))) (fun (x_8 : Int32) => bo2 (wl3 (tw_cards_B69 k1 k2 k3) FU (0 : Int32) x_8 σ) (fun (o_33 : Int32) (σ_34 : ST) => some (o_33, σ_34))))
def tw_cards (σ : ST) (a1 : Int32) (a2 : Int32) (a3 : Int32) : Option (Int32 × ST) :=
  bo (tw_isShelf a1) (fun (r_2 : Int32) => (if r_2 = 0 then some ((-1 : Int32), σ) else bo (tw_within ((a3).toInt64) (1 : Int64) (20 : Int64)) (fun (r_5 : Int32) => (if r_5 = 0 then some ((-1 : Int32), σ) else ck a1 6 ((if (lI σ 0 72 a1) < 0 then (tw_cards_K44 σ a1 a2 a3) else ck a1 6 ((if (lI σ 0 72 a1) = (51 : Int32) then (tw_cards_K44 σ a1 a2 a3) else some ((-12 : Int32), σ)))))))))
abbrev rm_X3_cards : Room := rmf 2 51
set_option maxHeartbeats 4000000 in
set_option maxRecDepth 100000 in
theorem mt_X3_cards (l : Launch) (G : GT) (σ : ST) (a1 : Int32) (a2 : Int32) (a3 : Int32) {r : Int32} {u : ST} (h : tw_cards σ a1 a2 a3 = some (r, u)) : CI l tw_ft G yX3_cards (ws_ yX3_cards cX3_cards 7 (some .int)) rm_X3_cards 0 0 [.ref (G.2.2.1 0), .int a1, .int a2, .int a3] σ (r, u) := by
  refine m_enterI (by decide) rfl (lv := [(0, .ref (G.2.2.1 0)), (1, .int a1), (2, .int a2), (3, .int a3)]) rfl ?_
  intro p e s m args below meth c H locs ls Q X hret hP hl
  have hx := X.1.1
  have hb := X.1.2.1
  have hown := X.1.2.2.2.1
  have hts := X.1.2.2.2.2
  unfold tw_cards at h
  refine lv_iload_n hx hb dX3_cards_0 rfl (lv_at hl 1 rfl) ?_
  obtain ⟨r_2, e_1, h⟩ := bo_ex h
  refine r_calli (r_runS (rest := []) X hP (mt_X3_isShelf l G σ a1 e_1) (va_cwS 1 hts (lw_S q1914 q1915 q113 q1916) rfl rfl rfl cdX3_isShelf ⟨Nat.le_of_ble_eq_true rfl, Nat.le_of_ble_eq_true rfl⟩) rfl hl.1 rfl (Nat.le_of_ble_eq_true rfl) dX3_cards_1 ⟨Nat.le_refl _, Nat.le_refl _⟩) hP (fun H locs hP => ?_)
  refine lv_if_eq (tgt := 19) hx hb dX3_cards_4 (by decide) (fun c_3 => ?_) (fun c_3 => ?_)
  · have h := it_t h c_3
    refine lv_iconst (v := (-1 : Int32)) hx hb dX3_cards_19 (by decide) ?_
    exact hret _ _ _ _ _ _ dX3_cards_20 rfl (Option.some.inj h) hP
  · have h := it_f h c_3
    refine lv_iload_n hx hb dX3_cards_7 rfl (lv_at hl 3 rfl) ?_
    refine lv_i2l hx hb dX3_cards_8 rfl ?_
    refine lv_lconst (v := (1 : Int64)) hx hb dX3_cards_9 (by decide) ?_
    refine lv_ldc2 hx hb hown (hts _ q1918) dX3_cards_10 ?_
    obtain ⟨r_5, e_4, h⟩ := bo_ex h
    refine r_calli (r_runS (rest := []) X hP (mt_X3_within l G σ ((a3).toInt64) (1 : Int64) (20 : Int64) e_4) (va_cwS 3 hts (lw_S q1880 q1881 q113 q1882) rfl rfl rfl cdX3_within ⟨Nat.le_of_ble_eq_true rfl, Nat.le_of_ble_eq_true rfl⟩) rfl hl.1 rfl (Nat.le_of_ble_eq_true rfl) dX3_cards_13 ⟨Nat.le_refl _, Nat.le_refl _⟩) hP (fun H locs hP => ?_)
    refine lv_if_ne (tgt := 21) hx hb dX3_cards_16 (by decide) (fun c_6 => ?_) (fun c_6 => ?_)
    · have h := it_f h c_6
      refine lv_aload_n hx hb dX3_cards_21 rfl (lv_at hl 0 rfl) ?_
      refine r_geta X hP 0 tw_c0 lk_3 72 (Nat.le_of_ble_eq_true rfl) q1710 tw_f72 dX3_cards_22 ?_
      refine lv_iload_n hx hb dX3_cards_25 rfl (lv_at hl 1 rfl) ?_
      refine r_iald X hP 41 tw_c41 (ck_in h) dX3_cards_26 ?_
      have h := ck_k h
      have hK_7 : ∀ (H : Heap) (locs : List Loc) (ls : Array Slot), tw_cards_K44 σ a1 a2 a3 = some (r, u) → PS tw_ft G s σ H locs → lv_has ls 7 [(0, .ref (G.2.2.1 0)), (1, .int a1), (2, .int a2), (3, .int a3)] → W p l e rm_X3_cards s m args below meth c H locs 0 0 Q (F0 m 44 ls []) := by
        intro  H locs ls h hP hl
        unfold tw_cards_K44 at h
        refine lv_iconst (v := (0 : Int32)) hx hb dX3_cards_44 (by decide) ?_
        refine lv_istore (lv' := [(4, .int (0 : Int32)), (0, .ref (G.2.2.1 0)), (1, .int a1), (2, .int a2), (3, .int a3)]) hx hb dX3_cards_45 hl (by decide) rfl (fun ls hl => ?_)
        refine lv_aload_n hx hb dX3_cards_47 rfl (lv_at hl 1 rfl) ?_
        refine r_geta X hP 0 tw_c0 lk_3 72 (Nat.le_of_ble_eq_true rfl) q1710 tw_f72 dX3_cards_48 ?_
        refine lv_iload_n hx hb dX3_cards_51 rfl (lv_at hl 2 rfl) ?_
        refine r_iald X hP 41 tw_c41 (ck_in h) dX3_cards_52 ?_
        have h := ck_k h
        refine lv_bipush (v := (51 : Int32)) hx hb dX3_cards_53 (by decide) ?_
        obtain ⟨x_65, h_66, h⟩ := bo_ex h
        have hJ_67 : ∀ (H : Heap) (locs : List Loc) (ls : Array Slot), PS tw_ft G s σ H locs → lv_has ls 7 [(0, .ref (G.2.2.1 0)), (1, .int a1), (2, .int a2), (3, .int a3), (4, .int (0 : Int32))] → W p l e rm_X3_cards s m args below meth c H locs 0 0 Q (F0 m 67 ls [.int x_65]) := by
          intro H locs ls hP hl
          refine lv_istore (lv' := [(5, .int x_65), (0, .ref (G.2.2.1 0)), (1, .int a1), (2, .int a2), (3, .int a3), (4, .int (0 : Int32))]) hx hb dX3_cards_67 hl (by decide) rfl (fun ls hl => ?_)
          obtain ⟨o_69, σ_70, h_71, h⟩ := bo2_ex h
          have hE_72 : ∀ (H : Heap) (locs : List Loc) (ls : Array Slot), PS tw_ft G s σ_70 H locs → lv_has ls 7 [(4, .int o_69)] → W p l e rm_X3_cards s m args below meth c H locs 0 0 Q (F0 m 213 ls []) := by
            intro H locs ls hP hl
            refine lv_iload hx hb dX3_cards_213 (lv_at hl 0 rfl) ?_
            exact hret _ _ _ _ _ _ dX3_cards_215 rfl (Option.some.inj h) hP
          have hL_68 : ∀ (n : Nat) (w_73 : Int32) (w_74 : Int32) (σ_75 : ST) (H : Heap) (locs : List Loc) (ls : Array Slot), wl3 (tw_cards_B69 a1 a2 a3) n w_73 w_74 σ_75 = some (o_69, σ_70) → PS tw_ft G s σ_75 H locs → lv_has ls 7 [(0, .ref (G.2.2.1 0)), (1, .int a1), (2, .int a2), (3, .int a3), (4, .int w_73), (5, .int w_74)] → W p l e rm_X3_cards s m args below meth c H locs 0 0 Q (F0 m 69 ls []) := by
            intro n
            induction n with
            | zero => intro w_73 w_74 σ_75 H locs ls h_76; cases h_76
            | succ n ih =>
              intro w_73 w_74 σ_75 H locs ls h_76 hP hl
              have h_76 : tw_cards_B69 a1 a2 a3 (wl3 (tw_cards_B69 a1 a2 a3) n) w_73 w_74 σ_75 = some _ := h_76
              generalize wl3 (tw_cards_B69 a1 a2 a3) n = rc_77 at h_76 ih
              unfold tw_cards_B69 at h_76
              refine lv_iload hx hb dX3_cards_69 (lv_at hl 5 rfl) ?_
              refine lv_if_eq (tgt := 213) hx hb dX3_cards_71 (by decide) (fun c_78 => ?_) (fun c_78 => ?_)
              · have h_76 := it_t h_76 c_78
                obtain ⟨rfl, rfl⟩ := so2 h_76
                exact hE_72 _ _ _ hP (lv_sub hl [4] rfl)
              · have h_76 := it_f h_76 c_78
                refine lv_iload hx hb dX3_cards_74 (lv_at hl 4 rfl) ?_
                refine lv_iload_n hx hb dX3_cards_76 rfl (lv_at hl 3 rfl) ?_
                refine lv_icmp_ge (tgt := 213) hx hb dX3_cards_77 (by decide) (fun c_79 => ?_) (fun c_79 => ?_)
                · have h_76 := it_t h_76 c_79
                  obtain ⟨rfl, rfl⟩ := so2 h_76
                  exact hE_72 _ _ _ hP (lv_sub hl [4] rfl)
                · have h_76 := it_f h_76 c_79
                  refine lv_iload_n hx hb dX3_cards_80 rfl (lv_at hl 2 rfl) ?_
                  refine lv_aload_n hx hb dX3_cards_81 rfl (lv_at hl 0 rfl) ?_
                  refine r_geta X hP 0 tw_c0 lk_3 73 (Nat.le_of_ble_eq_true rfl) q1711 tw_f73 dX3_cards_82 ?_
                  refine lv_iload_n hx hb dX3_cards_85 rfl (lv_at hl 1 rfl) ?_
                  refine r_iald X hP 42 tw_c42 (ck_in h_76) dX3_cards_86 ?_
                  have h_76 := ck_k h_76
                  refine lv_iconst (v := (3 : Int32)) hx hb dX3_cards_87 (by decide) ?_
                  refine lv_isub hx hb dX3_cards_88 ?_
                  refine lv_iconst (v := (3 : Int32)) hx hb dX3_cards_89 (by decide) ?_
                  refine lv_iload hx hb dX3_cards_90 (lv_at hl 4 rfl) ?_
                  refine lv_imul hx hb dX3_cards_92 ?_
                  refine lv_isub hx hb dX3_cards_93 ?_
                  obtain ⟨x_80, h_81, h_76⟩ := bo_ex h_76
                  have hJ_82 : ∀ (H : Heap) (locs : List Loc) (ls : Array Slot), PS tw_ft G s σ_75 H locs → lv_has ls 7 [(0, .ref (G.2.2.1 0)), (1, .int a1), (2, .int a2), (3, .int a3), (4, .int w_73)] → W p l e rm_X3_cards s m args below meth c H locs 0 0 Q (F0 m 111 ls [.int x_80]) := by
                    intro H locs ls hP hl
                    refine lv_istore (lv' := [(5, .int x_80), (0, .ref (G.2.2.1 0)), (1, .int a1), (2, .int a2), (3, .int a3), (4, .int w_73)]) hx hb dX3_cards_111 hl (by decide) rfl (fun ls hl => ?_)
                    refine lv_bipush (v := (60 : Int32)) hx hb dX3_cards_113 (by decide) ?_
                    refine lv_iload_n hx hb dX3_cards_115 rfl (lv_at hl 2 rfl) ?_
                    refine lv_imul hx hb dX3_cards_116 ?_
                    refine lv_iload_n hx hb dX3_cards_117 rfl (lv_at hl 3 rfl) ?_
                    refine lv_iadd hx hb dX3_cards_118 ?_
                    refine lv_iconst (v := (3 : Int32)) hx hb dX3_cards_119 (by decide) ?_
                    refine lv_iload hx hb dX3_cards_120 (lv_at hl 5 rfl) ?_
                    refine lv_imul hx hb dX3_cards_122 ?_
                    refine lv_iadd hx hb dX3_cards_123 ?_
                    refine lv_istore (lv' := [(6, .int ((((60 : Int32) * a1) + a2) + ((3 : Int32) * w_73))), (5, .int x_80), (0, .ref (G.2.2.1 0)), (1, .int a1), (2, .int a2), (3, .int a3), (4, .int w_73)]) hx hb dX3_cards_124 hl (by decide) rfl (fun ls hl => ?_)
                    refine lv_iload hx hb dX3_cards_126 (lv_at hl 1 rfl) ?_
                    obtain ⟨x_83, h_84, h_76⟩ := bo_ex h_76
                    have hJ_85 : ∀ (H : Heap) (locs : List Loc) (ls : Array Slot), PS tw_ft G s σ_75 H locs → lv_has ls 7 [(0, .ref (G.2.2.1 0)), (1, .int a1), (2, .int a2), (3, .int a3), (4, .int w_73), (6, .int ((((60 : Int32) * a1) + a2) + ((3 : Int32) * w_73)))] → W p l e rm_X3_cards s m args below meth c H locs 0 0 Q (F0 m 168 ls [.int x_83]) := by
                      intro H locs ls hP hl
                      refine lv_istore (lv' := [(5, .int x_83), (0, .ref (G.2.2.1 0)), (1, .int a1), (2, .int a2), (3, .int a3), (4, .int w_73), (6, .int ((((60 : Int32) * a1) + a2) + ((3 : Int32) * w_73)))]) hx hb dX3_cards_168 hl (by decide) rfl (fun ls hl => ?_)
                      refine lv_iload hx hb dX3_cards_170 (lv_at hl 0 rfl) ?_
                      obtain ⟨y_86, σ_87, h_88, h_76⟩ := bo2_ex h_76
                      have hJ_89 : ∀ (H : Heap) (locs : List Loc) (ls : Array Slot), PS tw_ft G s σ_87 H locs → lv_has ls 7 [(0, .ref (G.2.2.1 0)), (1, .int a1), (2, .int a2), (3, .int a3), (4, .int y_86), (5, .int x_83)] → W p l e rm_X3_cards s m args below meth c H locs 0 0 Q (F0 m 210 ls []) := by
                        intro H locs ls hP hl
                        refine lv_goto (tgt := 69) hx hb dX3_cards_210 (by decide) ?_
                        exact ih _ _ _ _ _ _ h_76 hP (lv_sub hl [0, 1, 2, 3, 4, 5] rfl)
                      refine lv_if_eq (tgt := 210) hx hb dX3_cards_172 (by decide) (fun c_90 => ?_) (fun c_90 => ?_)
                      · have h_88 := it_t h_88 c_90
                        obtain ⟨rfl, rfl⟩ := so2 h_88
                        exact hJ_89 _ _ _ hP (lv_sub hl [1, 2, 3, 4, 5, 0] rfl)
                      · have h_88 := it_f h_88 c_90
                        refine lv_aload_n hx hb dX3_cards_175 rfl (lv_at hl 1 rfl) ?_
                        refine lv_aload_n hx hb dX3_cards_176 rfl (lv_at hl 1 rfl) ?_
                        refine r_geta X hP 0 tw_c0 lk_3 74 (Nat.le_of_ble_eq_true rfl) q1712 tw_f74 dX3_cards_177 ?_
                        refine lv_iload hx hb dX3_cards_180 (lv_at hl 6 rfl) ?_
                        refine r_lald X hP 43 tw_c43 (ck_in h_88) dX3_cards_182 ?_
                        have h_88 := ck_k h_88
                        refine lv_l2i hx hb dX3_cards_183 rfl ?_
                        refine lv_aload_n hx hb dX3_cards_184 rfl (lv_at hl 1 rfl) ?_
                        refine r_geta X hP 0 tw_c0 lk_3 74 (Nat.le_of_ble_eq_true rfl) q1712 tw_f74 dX3_cards_185 ?_
                        refine lv_iload hx hb dX3_cards_188 (lv_at hl 6 rfl) ?_
                        refine lv_iconst (v := (1 : Int32)) hx hb dX3_cards_190 (by decide) ?_
                        refine lv_iadd hx hb dX3_cards_191 ?_
                        refine r_lald X hP 43 tw_c43 (ck_in h_88) dX3_cards_192 ?_
                        have h_88 := ck_k h_88
                        refine lv_l2i hx hb dX3_cards_193 rfl ?_
                        refine lv_aload_n hx hb dX3_cards_194 rfl (lv_at hl 1 rfl) ?_
                        refine r_geta X hP 0 tw_c0 lk_3 74 (Nat.le_of_ble_eq_true rfl) q1712 tw_f74 dX3_cards_195 ?_
                        refine lv_iload hx hb dX3_cards_198 (lv_at hl 6 rfl) ?_
                        refine lv_iconst (v := (2 : Int32)) hx hb dX3_cards_200 (by decide) ?_
                        refine lv_iadd hx hb dX3_cards_201 ?_
                        refine r_lald X hP 43 tw_c43 (ck_in h_88) dX3_cards_202 ?_
                        have h_88 := ck_k h_88
                        refine lv_l2i hx hb dX3_cards_203 rfl ?_
                        obtain ⟨σ_92, e_91, h_88⟩ := bo_ex h_88
                        refine r_callv (r_runV (rest := []) X hP 0 tw_c0 lk_3 (mt_X3_adds l G σ_75 (((lL σ_75 0 74 ((((60 : Int32) * a1) + a2) + ((3 : Int32) * w_73)))).toInt32) (((lL σ_75 0 74 (((((60 : Int32) * a1) + a2) + ((3 : Int32) * w_73)) + (1 : Int32)))).toInt32) (((lL σ_75 0 74 (((((60 : Int32) * a1) + a2) + ((3 : Int32) * w_73)) + (2 : Int32)))).toInt32) e_91) (cwV 3 hts (lw_V q1906 q1908 qs50 q113 q1909) rfl rfl rfl ⟨rfl, cdX3_adds⟩ ⟨Nat.le_of_ble_eq_true rfl, Nat.le_of_ble_eq_true rfl⟩) rfl hl.1 rfl (Nat.le_of_ble_eq_true rfl) dX3_cards_204 ⟨Nat.le_refl _, Nat.le_refl _⟩) hP (fun H locs hP => ?_)
                        refine lv_iinc (v := (w_73 + (1 : Int32))) (lv' := [(4, .int (w_73 + (1 : Int32))), (5, .int x_83), (0, .ref (G.2.2.1 0)), (1, .int a1), (2, .int a2), (3, .int a3), (6, .int ((((60 : Int32) * a1) + a2) + ((3 : Int32) * w_73)))]) hx hb dX3_cards_207 hl (k := 5) rfl rfl (by decide) rfl (fun ls hl => ?_)
                        obtain ⟨rfl, rfl⟩ := so2 h_88
                        exact hJ_89 _ _ _ hP (lv_sub hl [2, 3, 4, 5, 0, 1] rfl)
                    refine lv_if_eq (tgt := 167) hx hb dX3_cards_128 (by decide) (fun c_93 => ?_) (fun c_93 => ?_)
                    · have h_84 := it_t h_84 c_93
                      refine lv_iconst (v := (0 : Int32)) hx hb dX3_cards_167 (by decide) ?_
                      obtain rfl := Option.some.inj h_84
                      exact hJ_85 _ _ _ hP (lv_sub hl [2, 3, 4, 5, 6, 0] rfl)
                    · have h_84 := it_f h_84 c_93
                      refine lv_aload_n hx hb dX3_cards_131 rfl (lv_at hl 2 rfl) ?_
                      refine lv_aload_n hx hb dX3_cards_132 rfl (lv_at hl 2 rfl) ?_
                      refine r_geta X hP 0 tw_c0 lk_3 74 (Nat.le_of_ble_eq_true rfl) q1712 tw_f74 dX3_cards_133 ?_
                      refine lv_iload hx hb dX3_cards_136 (lv_at hl 0 rfl) ?_
                      refine r_lald X hP 43 tw_c43 (ck_in h_84) dX3_cards_138 ?_
                      have h_84 := ck_k h_84
                      refine lv_aload_n hx hb dX3_cards_139 rfl (lv_at hl 2 rfl) ?_
                      refine r_geta X hP 0 tw_c0 lk_3 74 (Nat.le_of_ble_eq_true rfl) q1712 tw_f74 dX3_cards_140 ?_
                      refine lv_iload hx hb dX3_cards_143 (lv_at hl 0 rfl) ?_
                      refine lv_iconst (v := (1 : Int32)) hx hb dX3_cards_145 (by decide) ?_
                      refine lv_iadd hx hb dX3_cards_146 ?_
                      refine r_lald X hP 43 tw_c43 (ck_in h_84) dX3_cards_147 ?_
                      have h_84 := ck_k h_84
                      refine lv_aload_n hx hb dX3_cards_148 rfl (lv_at hl 2 rfl) ?_
                      refine r_geta X hP 0 tw_c0 lk_3 74 (Nat.le_of_ble_eq_true rfl) q1712 tw_f74 dX3_cards_149 ?_
                      refine lv_iload hx hb dX3_cards_152 (lv_at hl 0 rfl) ?_
                      refine lv_iconst (v := (2 : Int32)) hx hb dX3_cards_154 (by decide) ?_
                      refine lv_iadd hx hb dX3_cards_155 ?_
                      refine r_lald X hP 43 tw_c43 (ck_in h_84) dX3_cards_156 ?_
                      have h_84 := ck_k h_84
                      obtain ⟨r_95, e_94, h_84⟩ := bo_ex h_84
                      refine r_calli (r_runV (rest := []) X hP 0 tw_c0 lk_3 (mt_X3_isOne l G σ_75 (lL σ_75 0 74 ((((60 : Int32) * a1) + a2) + ((3 : Int32) * w_73))) (lL σ_75 0 74 (((((60 : Int32) * a1) + a2) + ((3 : Int32) * w_73)) + (1 : Int32))) (lL σ_75 0 74 (((((60 : Int32) * a1) + a2) + ((3 : Int32) * w_73)) + (2 : Int32))) e_94) (cwV 3 hts (lw_V q1900 q1902 qs49 q113 q1903) rfl rfl rfl ⟨rfl, cdX3_isOne⟩ ⟨Nat.le_of_ble_eq_true rfl, Nat.le_of_ble_eq_true rfl⟩) rfl hl.1 rfl (Nat.le_of_ble_eq_true rfl) dX3_cards_157 ⟨Nat.le_refl _, Nat.le_refl _⟩) hP (fun H locs hP => ?_)
                      refine lv_if_eq (tgt := 167) hx hb dX3_cards_160 (by decide) (fun c_96 => ?_) (fun c_96 => ?_)
                      · have h_84 := it_t h_84 c_96
                        refine lv_iconst (v := (0 : Int32)) hx hb dX3_cards_167 (by decide) ?_
                        obtain rfl := Option.some.inj h_84
                        exact hJ_85 _ _ _ hP (lv_sub hl [2, 3, 4, 5, 6, 0] rfl)
                      · have h_84 := it_f h_84 c_96
                        refine lv_iconst (v := (1 : Int32)) hx hb dX3_cards_163 (by decide) ?_
                        refine lv_goto (tgt := 168) hx hb dX3_cards_164 (by decide) ?_
                        obtain rfl := Option.some.inj h_84
                        exact hJ_85 _ _ _ hP (lv_sub hl [2, 3, 4, 5, 6, 0] rfl)
                  refine lv_icmp_gt (tgt := 110) hx hb dX3_cards_94 (by decide) (fun c_97 => ?_) (fun c_97 => ?_)
                  · have h_81 := it_t h_81 c_97
                    refine lv_iconst (v := (0 : Int32)) hx hb dX3_cards_110 (by decide) ?_
                    obtain rfl := Option.some.inj h_81
                    exact hJ_82 _ _ _ hP (lv_sub hl [0, 1, 2, 3, 4] rfl)
                  · have h_81 := it_f h_81 c_97
                    refine lv_aload_n hx hb dX3_cards_97 rfl (lv_at hl 0 rfl) ?_
                    refine r_geti X hP 0 tw_c0 lk_3 9 (Nat.le_of_ble_eq_true rfl) q1647 tw_f9 dX3_cards_98 ?_
                    refine lv_bipush (v := (20 : Int32)) hx hb dX3_cards_101 (by decide) ?_
                    refine lv_icmp_ge (tgt := 110) hx hb dX3_cards_103 (by decide) (fun c_98 => ?_) (fun c_98 => ?_)
                    · have h_81 := it_t h_81 c_98
                      refine lv_iconst (v := (0 : Int32)) hx hb dX3_cards_110 (by decide) ?_
                      obtain rfl := Option.some.inj h_81
                      exact hJ_82 _ _ _ hP (lv_sub hl [0, 1, 2, 3, 4] rfl)
                    · have h_81 := it_f h_81 c_98
                      refine lv_iconst (v := (1 : Int32)) hx hb dX3_cards_106 (by decide) ?_
                      refine lv_goto (tgt := 111) hx hb dX3_cards_107 (by decide) ?_
                      obtain rfl := Option.some.inj h_81
                      exact hJ_82 _ _ _ hP (lv_sub hl [0, 1, 2, 3, 4] rfl)
          exact hL_68 _ _ _ _ _ _ _ h_71 hP (lv_sub hl [1, 2, 3, 4, 5, 0] rfl)
        refine lv_icmp_ne (tgt := 66) hx hb dX3_cards_55 (by decide) (fun c_99 => ?_) (fun c_99 => ?_)
        · have h_66 := it_f h_66 c_99
          refine lv_iconst (v := (0 : Int32)) hx hb dX3_cards_66 (by decide) ?_
          obtain rfl := Option.some.inj h_66
          exact hJ_67 _ _ _ hP (lv_sub hl [1, 2, 3, 4, 0] rfl)
        · have h_66 := it_t h_66 c_99
          refine lv_iload_n hx hb dX3_cards_58 rfl (lv_at hl 3 rfl) ?_
          refine lv_if_lt (tgt := 66) hx hb dX3_cards_59 (by decide) (fun c_100 => ?_) (fun c_100 => ?_)
          · have h_66 := it_t h_66 c_100
            refine lv_iconst (v := (0 : Int32)) hx hb dX3_cards_66 (by decide) ?_
            obtain rfl := Option.some.inj h_66
            exact hJ_67 _ _ _ hP (lv_sub hl [1, 2, 3, 4, 0] rfl)
          · have h_66 := it_f h_66 c_100
            refine lv_iconst (v := (1 : Int32)) hx hb dX3_cards_62 (by decide) ?_
            refine lv_goto (tgt := 67) hx hb dX3_cards_63 (by decide) ?_
            obtain rfl := Option.some.inj h_66
            exact hJ_67 _ _ _ hP (lv_sub hl [1, 2, 3, 4, 0] rfl)
      refine lv_if_lt (tgt := 44) hx hb dX3_cards_27 (by decide) (fun c_101 => ?_) (fun c_101 => ?_)
      · have h := it_t h c_101
        exact hK_7  _ _ _ h hP (lv_sub hl [0, 1, 2, 3] rfl)
      · have h := it_f h c_101
        refine lv_aload_n hx hb dX3_cards_30 rfl (lv_at hl 0 rfl) ?_
        refine r_geta X hP 0 tw_c0 lk_3 72 (Nat.le_of_ble_eq_true rfl) q1710 tw_f72 dX3_cards_31 ?_
        refine lv_iload_n hx hb dX3_cards_34 rfl (lv_at hl 1 rfl) ?_
        refine r_iald X hP 41 tw_c41 (ck_in h) dX3_cards_35 ?_
        have h := ck_k h
        refine lv_bipush (v := (51 : Int32)) hx hb dX3_cards_36 (by decide) ?_
        refine lv_icmp_eq (tgt := 44) hx hb dX3_cards_38 (by decide) (fun c_102 => ?_) (fun c_102 => ?_)
        · have h := it_t h c_102
          exact hK_7  _ _ _ h hP (lv_sub hl [0, 1, 2, 3] rfl)
        · have h := it_f h c_102
          refine lv_bipush (v := (-12 : Int32)) hx hb dX3_cards_41 (by decide) ?_
          exact hret _ _ _ _ _ _ dX3_cards_43 rfl (Option.some.inj h) hP
    · have h := it_t h c_6
      refine lv_iconst (v := (-1 : Int32)) hx hb dX3_cards_19 (by decide) ?_
      exact hret _ _ _ _ _ _ dX3_cards_20 rfl (Option.some.inj h) hP
