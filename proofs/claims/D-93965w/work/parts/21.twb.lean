set_option maxRecDepth 100000
def tw_set (σ : ST) (a1 : Int32) (a2 : Int32) : Option (Int32 × ST) :=
  (if a1 = (0 : Int32) then bo (tw_within ((a2).toInt64) (0 : Int64) (5 : Int64)) (fun (r_3 : Int32) => (if r_3 = 0 then some ((-1 : Int32), σ) else st_ (pI σ 0 13 a2) (fun (σ_5 : ST) => some ((gI σ 0 13), σ_5)))) else (if a1 = (1 : Int32) then bo (tw_within ((a2).toInt64) (0 : Int64) (1 : Int64)) (fun (r_9 : Int32) => (if r_9 = 0 then some ((-1 : Int32), σ) else st_ (pI σ 0 14 a2) (fun (σ_11 : ST) => some ((gI σ 0 14), σ_11)))) else (if a1 = (2 : Int32) then bo (tw_within ((a2).toInt64) (1 : Int64) (9 : Int64)) (fun (r_15 : Int32) => (if r_15 = 0 then some ((-1 : Int32), σ) else st_ (pI σ 0 15 a2) (fun (σ_17 : ST) => some ((gI σ 0 15), σ_17)))) else some ((-1 : Int32), σ))))
abbrev rm_X3_set : Room := rmf 1 25
set_option maxHeartbeats 4000000 in
set_option maxRecDepth 100000 in
theorem mt_X3_set (l : Launch) (G : GT) (σ : ST) (a1 : Int32) (a2 : Int32) {r : Int32} {u : ST} (h : tw_set σ a1 a2 = some (r, u)) : CI l tw_ft G yX3_set (ws_ yX3_set cX3_set 4 (some .int)) rm_X3_set 0 0 [.ref (G.2.2.1 0), .int a1, .int a2] σ (r, u) := by
  refine m_enterI (by decide) rfl (lv := [(0, .ref (G.2.2.1 0)), (1, .int a1), (2, .int a2)]) rfl ?_
  intro p e s m args below meth c H locs ls Q X hret hP hl
  have hx := X.1.1
  have hb := X.1.2.1
  have hown := X.1.2.2.2.1
  have hts := X.1.2.2.2.2
  unfold tw_set at h
  refine lv_iconst (v := (-1 : Int32)) hx hb dX3_set_0 (by decide) ?_
  refine lv_istore_n (lv' := [(3, .int (-1 : Int32)), (0, .ref (G.2.2.1 0)), (1, .int a1), (2, .int a2)]) hx hb dX3_set_1 rfl hl (by decide) rfl (fun ls hl => ?_)
  refine lv_iload_n hx hb dX3_set_2 rfl (lv_at hl 2 rfl) ?_
  by_cases c_1 : a1 = (0 : Int32)
  · have h := it_t h c_1
    refine lv_tableIn (tgt := 28) hx hb dX3_set_3 (by rw [c_1]; decide) (by rw [c_1]; decide) (by rw [c_1]; rfl) (by decide) ?_
    refine lv_iload_n hx hb dX3_set_28 rfl (lv_at hl 3 rfl) ?_
    refine lv_i2l hx hb dX3_set_29 rfl ?_
    refine lv_lconst (v := (0 : Int64)) hx hb dX3_set_30 (by decide) ?_
    refine lv_ldc2 hx hb hown (hts _ q1917) dX3_set_31 ?_
    obtain ⟨r_3, e_2, h⟩ := bo_ex h
    refine r_calli (r_runS (rest := []) X hP (mt_X3_within l G σ ((a2).toInt64) (0 : Int64) (5 : Int64) e_2) (va_cwS 3 hts (lw_S q1880 q1881 q113 q1882) rfl rfl rfl cdX3_within ⟨Nat.le_of_ble_eq_true rfl, Nat.le_of_ble_eq_true rfl⟩) rfl hl.1 rfl (Nat.le_of_ble_eq_true rfl) dX3_set_34 ⟨Nat.le_refl _, Nat.le_refl _⟩) hP (fun H locs hP => ?_)
    refine lv_if_eq (tgt := 50) hx hb dX3_set_37 (by decide) (fun c_4 => ?_) (fun c_4 => ?_)
    · have h := it_t h c_4
      refine lv_iload_n hx hb dX3_set_50 rfl (lv_at hl 0 rfl) ?_
      exact hret _ _ _ _ _ _ dX3_set_51 rfl (Option.some.inj h) hP
    · have h := it_f h c_4
      refine lv_aload_n hx hb dX3_set_40 rfl (lv_at hl 1 rfl) ?_
      refine r_geti X hP 0 tw_c0 lk_3 13 (Nat.le_of_ble_eq_true rfl) q1651 tw_f13 dX3_set_41 ?_
      refine lv_istore_n (lv' := [(3, .int (gI σ 0 13)), (0, .ref (G.2.2.1 0)), (1, .int a1), (2, .int a2)]) hx hb dX3_set_44 rfl hl (by decide) rfl (fun ls hl => ?_)
      refine lv_aload_n hx hb dX3_set_45 rfl (lv_at hl 1 rfl) ?_
      refine lv_iload_n hx hb dX3_set_46 rfl (lv_at hl 3 rfl) ?_
      refine r_puti X tw_w hP 0 tw_c0 lk_3 13 (Nat.le_of_ble_eq_true rfl) q1651 tw_f13 rfl (tyX3_ok 13 (by decide)) rfl rfl dX3_set_47 (fun σ_5 H locs e_6 hP => ?_)
      have h := st_k h e_6
      refine lv_iload_n hx hb dX3_set_50 rfl (lv_at hl 0 rfl) ?_
      exact hret _ _ _ _ _ _ dX3_set_51 rfl (Option.some.inj h) hP
  · have h := it_f h c_1
    by_cases c_7 : a1 = (1 : Int32)
    · have h := it_t h c_7
      refine lv_tableIn (tgt := 52) hx hb dX3_set_3 (by rw [c_7]; decide) (by rw [c_7]; decide) (by rw [c_7]; rfl) (by decide) ?_
      refine lv_iload_n hx hb dX3_set_52 rfl (lv_at hl 3 rfl) ?_
      refine lv_i2l hx hb dX3_set_53 rfl ?_
      refine lv_lconst (v := (0 : Int64)) hx hb dX3_set_54 (by decide) ?_
      refine lv_lconst (v := (1 : Int64)) hx hb dX3_set_55 (by decide) ?_
      obtain ⟨r_9, e_8, h⟩ := bo_ex h
      refine r_calli (r_runS (rest := []) X hP (mt_X3_within l G σ ((a2).toInt64) (0 : Int64) (1 : Int64) e_8) (va_cwS 3 hts (lw_S q1880 q1881 q113 q1882) rfl rfl rfl cdX3_within ⟨Nat.le_of_ble_eq_true rfl, Nat.le_of_ble_eq_true rfl⟩) rfl hl.1 rfl (Nat.le_of_ble_eq_true rfl) dX3_set_56 ⟨Nat.le_refl _, Nat.le_refl _⟩) hP (fun H locs hP => ?_)
      refine lv_if_eq (tgt := 72) hx hb dX3_set_59 (by decide) (fun c_10 => ?_) (fun c_10 => ?_)
      · have h := it_t h c_10
        refine lv_iload_n hx hb dX3_set_72 rfl (lv_at hl 0 rfl) ?_
        exact hret _ _ _ _ _ _ dX3_set_73 rfl (Option.some.inj h) hP
      · have h := it_f h c_10
        refine lv_aload_n hx hb dX3_set_62 rfl (lv_at hl 1 rfl) ?_
        refine r_geti X hP 0 tw_c0 lk_3 14 (Nat.le_of_ble_eq_true rfl) q1652 tw_f14 dX3_set_63 ?_
        refine lv_istore_n (lv' := [(3, .int (gI σ 0 14)), (0, .ref (G.2.2.1 0)), (1, .int a1), (2, .int a2)]) hx hb dX3_set_66 rfl hl (by decide) rfl (fun ls hl => ?_)
        refine lv_aload_n hx hb dX3_set_67 rfl (lv_at hl 1 rfl) ?_
        refine lv_iload_n hx hb dX3_set_68 rfl (lv_at hl 3 rfl) ?_
        refine r_puti X tw_w hP 0 tw_c0 lk_3 14 (Nat.le_of_ble_eq_true rfl) q1652 tw_f14 rfl (tyX3_ok 14 (by decide)) rfl rfl dX3_set_69 (fun σ_11 H locs e_12 hP => ?_)
        have h := st_k h e_12
        refine lv_iload_n hx hb dX3_set_72 rfl (lv_at hl 0 rfl) ?_
        exact hret _ _ _ _ _ _ dX3_set_73 rfl (Option.some.inj h) hP
    · have h := it_f h c_7
      by_cases c_13 : a1 = (2 : Int32)
      · have h := it_t h c_13
        refine lv_tableIn (tgt := 74) hx hb dX3_set_3 (by rw [c_13]; decide) (by rw [c_13]; decide) (by rw [c_13]; rfl) (by decide) ?_
        refine lv_iload_n hx hb dX3_set_74 rfl (lv_at hl 3 rfl) ?_
        refine lv_i2l hx hb dX3_set_75 rfl ?_
        refine lv_lconst (v := (1 : Int64)) hx hb dX3_set_76 (by decide) ?_
        refine lv_ldc2 hx hb hown (hts _ q1895) dX3_set_77 ?_
        obtain ⟨r_15, e_14, h⟩ := bo_ex h
        refine r_calli (r_runS (rest := []) X hP (mt_X3_within l G σ ((a2).toInt64) (1 : Int64) (9 : Int64) e_14) (va_cwS 3 hts (lw_S q1880 q1881 q113 q1882) rfl rfl rfl cdX3_within ⟨Nat.le_of_ble_eq_true rfl, Nat.le_of_ble_eq_true rfl⟩) rfl hl.1 rfl (Nat.le_of_ble_eq_true rfl) dX3_set_80 ⟨Nat.le_refl _, Nat.le_refl _⟩) hP (fun H locs hP => ?_)
        refine lv_if_eq (tgt := 96) hx hb dX3_set_83 (by decide) (fun c_16 => ?_) (fun c_16 => ?_)
        · have h := it_t h c_16
          refine lv_iload_n hx hb dX3_set_96 rfl (lv_at hl 0 rfl) ?_
          exact hret _ _ _ _ _ _ dX3_set_97 rfl (Option.some.inj h) hP
        · have h := it_f h c_16
          refine lv_aload_n hx hb dX3_set_86 rfl (lv_at hl 1 rfl) ?_
          refine r_geti X hP 0 tw_c0 lk_3 15 (Nat.le_of_ble_eq_true rfl) q1653 tw_f15 dX3_set_87 ?_
          refine lv_istore_n (lv' := [(3, .int (gI σ 0 15)), (0, .ref (G.2.2.1 0)), (1, .int a1), (2, .int a2)]) hx hb dX3_set_90 rfl hl (by decide) rfl (fun ls hl => ?_)
          refine lv_aload_n hx hb dX3_set_91 rfl (lv_at hl 1 rfl) ?_
          refine lv_iload_n hx hb dX3_set_92 rfl (lv_at hl 3 rfl) ?_
          refine r_puti X tw_w hP 0 tw_c0 lk_3 15 (Nat.le_of_ble_eq_true rfl) q1653 tw_f15 rfl (tyX3_ok 15 (by decide)) rfl rfl dX3_set_93 (fun σ_17 H locs e_18 hP => ?_)
          have h := st_k h e_18
          refine lv_iload_n hx hb dX3_set_96 rfl (lv_at hl 0 rfl) ?_
          exact hret _ _ _ _ _ _ dX3_set_97 rfl (Option.some.inj h) hP
      · have h := it_f h c_13
        refine lv_tableOut (tgt := 98) hx hb dX3_set_3 (by have n0 := lv_neT c_1 (a := 0) (by decide); have n1 := lv_neT c_7 (a := 1) (by decide); have n2 := lv_neT c_13 (a := 2) (by decide); omega) (by decide) ?_
        refine lv_iconst (v := (-1 : Int32)) hx hb dX3_set_98 (by decide) ?_
        exact hret _ _ _ _ _ _ dX3_set_99 rfl (Option.some.inj h) hP
def tw_becomes_B26 (l1 : Int32) (l2 : Int32) (l3 : Int32) (rc26 : Int32 → ST → Option (ST)) (w4 : Int32) (σ : ST) : Option (ST) :=
  (if (40 : Int32) ≤ w4 then some (σ) else ck w4 40 (ck (w4 - (1 : Int32)) 40 (st_ (aI σ 0 1 (w4 - (1 : Int32)) (lI σ 0 1 w4)) (fun (σ_19 : ST) => ck w4 40 (ck (w4 - (1 : Int32)) 40 (st_ (aI σ_19 0 2 (w4 - (1 : Int32)) (lI σ_19 0 2 w4)) (fun (σ_21 : ST) => ck w4 40 (ck (w4 - (1 : Int32)) 40 (st_ (aI σ_21 0 3 (w4 - (1 : Int32)) (lI σ_21 0 3 w4)) (fun (σ_23 : ST) => (rc26 (w4 + (1 : Int32)) σ_23)))))))))))
def tw_becomes (σ : ST) (a1 : Int32) (a2 : Int32) : Option (Int32 × ST) :=
  ck a1 42 ((if (lI σ 0 0 a1) = a2 then some ((lI σ 0 0 a1), σ) else bo (if (gI σ 0 5) = (40 : Int32) then bo (wl2 (tw_becomes_B26 a1 a2 (lI σ 0 0 a1)) FU (1 : Int32) σ) (fun (σ_26 : ST) => st_ (pI σ_26 0 5 ((gI σ_26 0 5) - (1 : Int32))) (fun (σ_29 : ST) => some (σ_29))) else some (σ)) (fun (σ_2 : ST) => ck (gI σ_2 0 5) 40 (st_ (aI σ_2 0 1 (gI σ_2 0 5) a1) (fun (σ_5 : ST) => ck (gI σ_5 0 5) 40 (st_ (aI σ_5 0 2 (gI σ_5 0 5) (lI σ 0 0 a1)) (fun (σ_7 : ST) => ck (gI σ_7 0 5) 40 (st_ (aI σ_7 0 3 (gI σ_7 0 5) a2) (fun (σ_9 : ST) => st_ (pI σ_9 0 5 ((gI σ_9 0 5) + (1 : Int32))) (fun (σ_11 : ST) => st_ (pI σ_11 0 4 (gI σ_11 0 5)) (fun (σ_13 : ST) => ck a1 42 (st_ (aI σ_13 0 0 a1 a2) (fun (σ_15 : ST) => some ((lI σ 0 0 a1), σ_15))))))))))))))
abbrev rm_X3_becomes : Room := rmf 0 0
set_option maxHeartbeats 4000000 in
set_option maxRecDepth 100000 in
theorem mt_X3_becomes (l : Launch) (G : GT) (σ : ST) (a1 : Int32) (a2 : Int32) {r : Int32} {u : ST} (h : tw_becomes σ a1 a2 = some (r, u)) : CI l tw_ft G yX3_becomes (ws_ yX3_becomes cX3_becomes 5 (some .int)) rm_X3_becomes 0 0 [.ref (G.2.2.1 0), .int a1, .int a2] σ (r, u) := by
  refine m_enterI (by decide) rfl (lv := [(0, .ref (G.2.2.1 0)), (1, .int a1), (2, .int a2)]) rfl ?_
  intro p e s m args below meth c H locs ls Q X hret hP hl
  have hx := X.1.1
  have hb := X.1.2.1
  have hown := X.1.2.2.2.1
  have hts := X.1.2.2.2.2
  unfold tw_becomes at h
  refine lv_aload_n hx hb dX3_becomes_0 rfl (lv_at hl 0 rfl) ?_
  refine r_geta X hP 0 tw_c0 lk_3 0 (Nat.le_of_ble_eq_true rfl) q1638 tw_f0 dX3_becomes_1 ?_
  refine lv_iload_n hx hb dX3_becomes_4 rfl (lv_at hl 1 rfl) ?_
  refine r_iald X hP 1 tw_c1 (ck_in h) dX3_becomes_5 ?_
  have h := ck_k h
  refine lv_istore_n (lv' := [(3, .int (lI σ 0 0 a1)), (0, .ref (G.2.2.1 0)), (1, .int a1), (2, .int a2)]) hx hb dX3_becomes_6 rfl hl (by decide) rfl (fun ls hl => ?_)
  refine lv_iload_n hx hb dX3_becomes_7 rfl (lv_at hl 0 rfl) ?_
  refine lv_iload_n hx hb dX3_becomes_8 rfl (lv_at hl 3 rfl) ?_
  refine lv_icmp_ne (tgt := 14) hx hb dX3_becomes_9 (by decide) (fun c_1 => ?_) (fun c_1 => ?_)
  · have h := it_f h c_1
    refine lv_aload_n hx hb dX3_becomes_14 rfl (lv_at hl 1 rfl) ?_
    refine r_geti X hP 0 tw_c0 lk_3 5 (Nat.le_of_ble_eq_true rfl) q1643 tw_f5 dX3_becomes_15 ?_
    refine lv_bipush (v := (40 : Int32)) hx hb dX3_becomes_18 (by decide) ?_
    obtain ⟨σ_2, h_3, h⟩ := bo_ex h
    have hJ_4 : ∀ (H : Heap) (locs : List Loc) (ls : Array Slot), PS tw_ft G s σ_2 H locs → lv_has ls 5 [(0, .ref (G.2.2.1 0)), (1, .int a1), (2, .int a2), (3, .int (lI σ 0 0 a1))] → W p l e rm_X3_becomes s m args below meth c H locs 0 0 Q (F0 m 97 ls []) := by
      intro H locs ls hP hl
      refine lv_aload_n hx hb dX3_becomes_97 rfl (lv_at hl 0 rfl) ?_
      refine r_geta X hP 0 tw_c0 lk_3 1 (Nat.le_of_ble_eq_true rfl) q1639 tw_f1 dX3_becomes_98 ?_
      refine lv_aload_n hx hb dX3_becomes_101 rfl (lv_at hl 0 rfl) ?_
      refine r_geti X hP 0 tw_c0 lk_3 5 (Nat.le_of_ble_eq_true rfl) q1643 tw_f5 dX3_becomes_102 ?_
      refine lv_iload_n hx hb dX3_becomes_105 rfl (lv_at hl 1 rfl) ?_
      refine r_iast X tw_w hP 2 tw_c2 (ck_in h) dX3_becomes_106 (fun σ_5 H locs e_6 hP => ?_)
      have h := st_k (ck_k h) e_6
      refine lv_aload_n hx hb dX3_becomes_107 rfl (lv_at hl 0 rfl) ?_
      refine r_geta X hP 0 tw_c0 lk_3 2 (Nat.le_of_ble_eq_true rfl) q1640 tw_f2 dX3_becomes_108 ?_
      refine lv_aload_n hx hb dX3_becomes_111 rfl (lv_at hl 0 rfl) ?_
      refine r_geti X hP 0 tw_c0 lk_3 5 (Nat.le_of_ble_eq_true rfl) q1643 tw_f5 dX3_becomes_112 ?_
      refine lv_iload_n hx hb dX3_becomes_115 rfl (lv_at hl 3 rfl) ?_
      refine r_iast X tw_w hP 3 tw_c3 (ck_in h) dX3_becomes_116 (fun σ_7 H locs e_8 hP => ?_)
      have h := st_k (ck_k h) e_8
      refine lv_aload_n hx hb dX3_becomes_117 rfl (lv_at hl 0 rfl) ?_
      refine r_geta X hP 0 tw_c0 lk_3 3 (Nat.le_of_ble_eq_true rfl) q1641 tw_f3 dX3_becomes_118 ?_
      refine lv_aload_n hx hb dX3_becomes_121 rfl (lv_at hl 0 rfl) ?_
      refine r_geti X hP 0 tw_c0 lk_3 5 (Nat.le_of_ble_eq_true rfl) q1643 tw_f5 dX3_becomes_122 ?_
      refine lv_iload_n hx hb dX3_becomes_125 rfl (lv_at hl 2 rfl) ?_
      refine r_iast X tw_w hP 4 tw_c4 (ck_in h) dX3_becomes_126 (fun σ_9 H locs e_10 hP => ?_)
      have h := st_k (ck_k h) e_10
      refine lv_aload_n hx hb dX3_becomes_127 rfl (lv_at hl 0 rfl) ?_
      refine lv_dup hx hb dX3_becomes_128 rfl ?_
      refine r_geti X hP 0 tw_c0 lk_3 5 (Nat.le_of_ble_eq_true rfl) q1643 tw_f5 dX3_becomes_129 ?_
      refine lv_iconst (v := (1 : Int32)) hx hb dX3_becomes_132 (by decide) ?_
      refine lv_iadd hx hb dX3_becomes_133 ?_
      refine r_puti X tw_w hP 0 tw_c0 lk_3 5 (Nat.le_of_ble_eq_true rfl) q1643 tw_f5 rfl (tyX3_ok 5 (by decide)) rfl rfl dX3_becomes_134 (fun σ_11 H locs e_12 hP => ?_)
      have h := st_k h e_12
      refine lv_aload_n hx hb dX3_becomes_137 rfl (lv_at hl 0 rfl) ?_
      refine lv_aload_n hx hb dX3_becomes_138 rfl (lv_at hl 0 rfl) ?_
      refine r_geti X hP 0 tw_c0 lk_3 5 (Nat.le_of_ble_eq_true rfl) q1643 tw_f5 dX3_becomes_139 ?_
      refine r_puti X tw_w hP 0 tw_c0 lk_3 4 (Nat.le_of_ble_eq_true rfl) q1642 tw_f4 rfl (tyX3_ok 4 (by decide)) rfl rfl dX3_becomes_142 (fun σ_13 H locs e_14 hP => ?_)
      have h := st_k h e_14
      refine lv_aload_n hx hb dX3_becomes_145 rfl (lv_at hl 0 rfl) ?_
      refine r_geta X hP 0 tw_c0 lk_3 0 (Nat.le_of_ble_eq_true rfl) q1638 tw_f0 dX3_becomes_146 ?_
      refine lv_iload_n hx hb dX3_becomes_149 rfl (lv_at hl 1 rfl) ?_
      refine lv_iload_n hx hb dX3_becomes_150 rfl (lv_at hl 2 rfl) ?_
      refine r_iast X tw_w hP 1 tw_c1 (ck_in h) dX3_becomes_151 (fun σ_15 H locs e_16 hP => ?_)
      have h := st_k (ck_k h) e_16
      refine lv_iload_n hx hb dX3_becomes_152 rfl (lv_at hl 3 rfl) ?_
      exact hret _ _ _ _ _ _ dX3_becomes_153 rfl (Option.some.inj h) hP
    refine lv_icmp_ne (tgt := 97) hx hb dX3_becomes_20 (by decide) (fun c_17 => ?_) (fun c_17 => ?_)
    · have h_3 := it_f h_3 c_17
      obtain rfl := Option.some.inj h_3
      exact hJ_4 _ _ _ hP (lv_sub hl [1, 2, 3, 0] rfl)
    · have h_3 := it_t h_3 c_17
      refine lv_iconst (v := (1 : Int32)) hx hb dX3_becomes_23 (by decide) ?_
      refine lv_istore (lv' := [(4, .int (1 : Int32)), (3, .int (lI σ 0 0 a1)), (0, .ref (G.2.2.1 0)), (1, .int a1), (2, .int a2)]) hx hb dX3_becomes_24 hl (by decide) rfl (fun ls hl => ?_)
      obtain ⟨σ_26, h_27, h_3⟩ := bo_ex h_3
      have hE_28 : ∀ (H : Heap) (locs : List Loc) (ls : Array Slot), PS tw_ft G s σ_26 H locs → lv_has ls 5 [(0, .ref (G.2.2.1 0)), (1, .int a1), (2, .int a2), (3, .int (lI σ 0 0 a1))] → W p l e rm_X3_becomes s m args below meth c H locs 0 0 Q (F0 m 87 ls []) := by
        intro H locs ls hP hl
        refine lv_aload_n hx hb dX3_becomes_87 rfl (lv_at hl 0 rfl) ?_
        refine lv_dup hx hb dX3_becomes_88 rfl ?_
        refine r_geti X hP 0 tw_c0 lk_3 5 (Nat.le_of_ble_eq_true rfl) q1643 tw_f5 dX3_becomes_89 ?_
        refine lv_iconst (v := (1 : Int32)) hx hb dX3_becomes_92 (by decide) ?_
        refine lv_isub hx hb dX3_becomes_93 ?_
        refine r_puti X tw_w hP 0 tw_c0 lk_3 5 (Nat.le_of_ble_eq_true rfl) q1643 tw_f5 rfl (tyX3_ok 5 (by decide)) rfl rfl dX3_becomes_94 (fun σ_29 H locs e_30 hP => ?_)
        have h_3 := st_k h_3 e_30
        obtain rfl := Option.some.inj h_3
        exact hJ_4 _ _ _ hP (lv_sub hl [0, 1, 2, 3] rfl)
      have hL_25 : ∀ (n : Nat) (w_31 : Int32) (σ_32 : ST) (H : Heap) (locs : List Loc) (ls : Array Slot), wl2 (tw_becomes_B26 a1 a2 (lI σ 0 0 a1)) n w_31 σ_32 = some σ_26 → PS tw_ft G s σ_32 H locs → lv_has ls 5 [(0, .ref (G.2.2.1 0)), (1, .int a1), (2, .int a2), (3, .int (lI σ 0 0 a1)), (4, .int w_31)] → W p l e rm_X3_becomes s m args below meth c H locs 0 0 Q (F0 m 26 ls []) := by
        intro n
        induction n with
        | zero => intro w_31 σ_32 H locs ls h_33; cases h_33
        | succ n ih =>
          intro w_31 σ_32 H locs ls h_33 hP hl
          have h_33 : tw_becomes_B26 a1 a2 (lI σ 0 0 a1) (wl2 (tw_becomes_B26 a1 a2 (lI σ 0 0 a1)) n) w_31 σ_32 = some _ := h_33
          generalize wl2 (tw_becomes_B26 a1 a2 (lI σ 0 0 a1)) n = rc_34 at h_33 ih
          unfold tw_becomes_B26 at h_33
          refine lv_iload hx hb dX3_becomes_26 (lv_at hl 4 rfl) ?_
          refine lv_bipush (v := (40 : Int32)) hx hb dX3_becomes_28 (by decide) ?_
          refine lv_icmp_ge (tgt := 87) hx hb dX3_becomes_30 (by decide) (fun c_35 => ?_) (fun c_35 => ?_)
          · have h_33 := it_t h_33 c_35
            obtain rfl := Option.some.inj h_33
            exact hE_28 _ _ _ hP (lv_sub hl [0, 1, 2, 3] rfl)
          · have h_33 := it_f h_33 c_35
            refine lv_aload_n hx hb dX3_becomes_33 rfl (lv_at hl 0 rfl) ?_
            refine r_geta X hP 0 tw_c0 lk_3 1 (Nat.le_of_ble_eq_true rfl) q1639 tw_f1 dX3_becomes_34 ?_
            refine lv_iload hx hb dX3_becomes_37 (lv_at hl 4 rfl) ?_
            refine lv_iconst (v := (1 : Int32)) hx hb dX3_becomes_39 (by decide) ?_
            refine lv_isub hx hb dX3_becomes_40 ?_
            refine lv_aload_n hx hb dX3_becomes_41 rfl (lv_at hl 0 rfl) ?_
            refine r_geta X hP 0 tw_c0 lk_3 1 (Nat.le_of_ble_eq_true rfl) q1639 tw_f1 dX3_becomes_42 ?_
            refine lv_iload hx hb dX3_becomes_45 (lv_at hl 4 rfl) ?_
            refine r_iald X hP 2 tw_c2 (ck_in h_33) dX3_becomes_47 ?_
            have h_33 := ck_k h_33
            refine r_iast X tw_w hP 2 tw_c2 (ck_in h_33) dX3_becomes_48 (fun σ_36 H locs e_37 hP => ?_)
            have h_33 := st_k (ck_k h_33) e_37
            refine lv_aload_n hx hb dX3_becomes_49 rfl (lv_at hl 0 rfl) ?_
            refine r_geta X hP 0 tw_c0 lk_3 2 (Nat.le_of_ble_eq_true rfl) q1640 tw_f2 dX3_becomes_50 ?_
            refine lv_iload hx hb dX3_becomes_53 (lv_at hl 4 rfl) ?_
            refine lv_iconst (v := (1 : Int32)) hx hb dX3_becomes_55 (by decide) ?_
            refine lv_isub hx hb dX3_becomes_56 ?_
            refine lv_aload_n hx hb dX3_becomes_57 rfl (lv_at hl 0 rfl) ?_
            refine r_geta X hP 0 tw_c0 lk_3 2 (Nat.le_of_ble_eq_true rfl) q1640 tw_f2 dX3_becomes_58 ?_
            refine lv_iload hx hb dX3_becomes_61 (lv_at hl 4 rfl) ?_
            refine r_iald X hP 3 tw_c3 (ck_in h_33) dX3_becomes_63 ?_
            have h_33 := ck_k h_33
            refine r_iast X tw_w hP 3 tw_c3 (ck_in h_33) dX3_becomes_64 (fun σ_38 H locs e_39 hP => ?_)
            have h_33 := st_k (ck_k h_33) e_39
            refine lv_aload_n hx hb dX3_becomes_65 rfl (lv_at hl 0 rfl) ?_
            refine r_geta X hP 0 tw_c0 lk_3 3 (Nat.le_of_ble_eq_true rfl) q1641 tw_f3 dX3_becomes_66 ?_
            refine lv_iload hx hb dX3_becomes_69 (lv_at hl 4 rfl) ?_
            refine lv_iconst (v := (1 : Int32)) hx hb dX3_becomes_71 (by decide) ?_
            refine lv_isub hx hb dX3_becomes_72 ?_
            refine lv_aload_n hx hb dX3_becomes_73 rfl (lv_at hl 0 rfl) ?_
            refine r_geta X hP 0 tw_c0 lk_3 3 (Nat.le_of_ble_eq_true rfl) q1641 tw_f3 dX3_becomes_74 ?_
            refine lv_iload hx hb dX3_becomes_77 (lv_at hl 4 rfl) ?_
            refine r_iald X hP 4 tw_c4 (ck_in h_33) dX3_becomes_79 ?_
            have h_33 := ck_k h_33
            refine r_iast X tw_w hP 4 tw_c4 (ck_in h_33) dX3_becomes_80 (fun σ_40 H locs e_41 hP => ?_)
            have h_33 := st_k (ck_k h_33) e_41
            refine lv_iinc (v := (w_31 + (1 : Int32))) (lv' := [(4, .int (w_31 + (1 : Int32))), (0, .ref (G.2.2.1 0)), (1, .int a1), (2, .int a2), (3, .int (lI σ 0 0 a1))]) hx hb dX3_becomes_81 hl (k := 4) rfl rfl (by decide) rfl (fun ls hl => ?_)
            refine lv_goto (tgt := 26) hx hb dX3_becomes_84 (by decide) ?_
            exact ih _ _ _ _ _ h_33 hP (lv_sub hl [1, 2, 3, 4, 0] rfl)
      exact hL_25 _ _ _ _ _ _ h_27 hP (lv_sub hl [2, 3, 4, 1, 0] rfl)
  · have h := it_t h c_1
    refine lv_iload_n hx hb dX3_becomes_12 rfl (lv_at hl 0 rfl) ?_
    exact hret _ _ _ _ _ _ dX3_becomes_13 rfl (Option.some.inj h) hP
def tw_isPerson (σ : ST) (a1 : Int32) : Option Int32 :=
  bo (tw_within ((a1).toInt64) (0 : Int64) ((((gI σ 0 6) - (1 : Int32))).toInt64)) (fun (r_2 : Int32) => bz r_2 (some r_2))
abbrev rm_X3_isPerson : Room := rmf 1 25
set_option maxHeartbeats 4000000 in
set_option maxRecDepth 100000 in
theorem mt_X3_isPerson (l : Launch) (G : GT) (σ : ST) (a1 : Int32) {r : Int32} (h : tw_isPerson σ a1 = some r) : CI l tw_ft G yX3_isPerson (ws_ yX3_isPerson cX3_isPerson 2 (some .boolean)) rm_X3_isPerson 0 0 [.ref (G.2.2.1 0), .int a1] σ (r, σ) := by
  refine m_enterI (by decide) rfl (lv := [(0, .ref (G.2.2.1 0)), (1, .int a1)]) rfl ?_
  intro p e s m args below meth c H locs ls Q X hret hP hl
  have hx := X.1.1
  have hb := X.1.2.1
  have hown := X.1.2.2.2.1
  have hts := X.1.2.2.2.2
  unfold tw_isPerson at h
  refine lv_iload_n hx hb dX3_isPerson_0 rfl (lv_at hl 1 rfl) ?_
  refine lv_i2l hx hb dX3_isPerson_1 rfl ?_
  refine lv_lconst (v := (0 : Int64)) hx hb dX3_isPerson_2 (by decide) ?_
  refine lv_aload_n hx hb dX3_isPerson_3 rfl (lv_at hl 0 rfl) ?_
  refine r_geti X hP 0 tw_c0 lk_3 6 (Nat.le_of_ble_eq_true rfl) q1644 tw_f6 dX3_isPerson_4 ?_
  refine lv_iconst (v := (1 : Int32)) hx hb dX3_isPerson_7 (by decide) ?_
  refine lv_isub hx hb dX3_isPerson_8 ?_
  refine lv_i2l hx hb dX3_isPerson_9 rfl ?_
  obtain ⟨r_2, e_1, h⟩ := bo_ex h
  refine r_calli (r_runS (rest := []) X hP (mt_X3_within l G σ ((a1).toInt64) (0 : Int64) ((((gI σ 0 6) - (1 : Int32))).toInt64) e_1) (va_cwS 3 hts (lw_S q1880 q1881 q113 q1882) rfl rfl rfl cdX3_within ⟨Nat.le_of_ble_eq_true rfl, Nat.le_of_ble_eq_true rfl⟩) rfl hl.1 rfl (Nat.le_of_ble_eq_true rfl) dX3_isPerson_10 ⟨Nat.le_refl _, Nat.le_refl _⟩) hP (fun H locs hP => ?_)
  exact hret _ _ _ _ _ _ dX3_isPerson_13 (bz_or h) (congrArg (fun z9 => (z9, σ)) (Option.some.inj (bz_k h))) hP
def tw_isThing (σ : ST) (a1 : Int32) : Option Int32 :=
  bo (tw_within ((a1).toInt64) (0 : Int64) ((((gI σ 0 8) - (1 : Int32))).toInt64)) (fun (r_2 : Int32) => bz r_2 (some r_2))
abbrev rm_X3_isThing : Room := rmf 1 25
set_option maxHeartbeats 4000000 in
set_option maxRecDepth 100000 in
theorem mt_X3_isThing (l : Launch) (G : GT) (σ : ST) (a1 : Int32) {r : Int32} (h : tw_isThing σ a1 = some r) : CI l tw_ft G yX3_isThing (ws_ yX3_isThing cX3_isThing 2 (some .boolean)) rm_X3_isThing 0 0 [.ref (G.2.2.1 0), .int a1] σ (r, σ) := by
  refine m_enterI (by decide) rfl (lv := [(0, .ref (G.2.2.1 0)), (1, .int a1)]) rfl ?_
  intro p e s m args below meth c H locs ls Q X hret hP hl
  have hx := X.1.1
  have hb := X.1.2.1
  have hown := X.1.2.2.2.1
  have hts := X.1.2.2.2.2
  unfold tw_isThing at h
  refine lv_iload_n hx hb dX3_isThing_0 rfl (lv_at hl 1 rfl) ?_
  refine lv_i2l hx hb dX3_isThing_1 rfl ?_
  refine lv_lconst (v := (0 : Int64)) hx hb dX3_isThing_2 (by decide) ?_
  refine lv_aload_n hx hb dX3_isThing_3 rfl (lv_at hl 0 rfl) ?_
  refine r_geti X hP 0 tw_c0 lk_3 8 (Nat.le_of_ble_eq_true rfl) q1646 tw_f8 dX3_isThing_4 ?_
  refine lv_iconst (v := (1 : Int32)) hx hb dX3_isThing_7 (by decide) ?_
  refine lv_isub hx hb dX3_isThing_8 ?_
  refine lv_i2l hx hb dX3_isThing_9 rfl ?_
  obtain ⟨r_2, e_1, h⟩ := bo_ex h
  refine r_calli (r_runS (rest := []) X hP (mt_X3_within l G σ ((a1).toInt64) (0 : Int64) ((((gI σ 0 8) - (1 : Int32))).toInt64) e_1) (va_cwS 3 hts (lw_S q1880 q1881 q113 q1882) rfl rfl rfl cdX3_within ⟨Nat.le_of_ble_eq_true rfl, Nat.le_of_ble_eq_true rfl⟩) rfl hl.1 rfl (Nat.le_of_ble_eq_true rfl) dX3_isThing_10 ⟨Nat.le_refl _, Nat.le_refl _⟩) hP (fun H locs hP => ?_)
  exact hret _ _ _ _ _ _ dX3_isThing_13 (bz_or h) (congrArg (fun z9 => (z9, σ)) (Option.some.inj (bz_k h))) hP
def tw_mend (σ : ST) (a1 : Int32) (a2 : Int32) (a3 : Int32) : Option (Int32 × ST) :=
  (if a2 = (0 : Int32) then bo (tw_isPerson σ a1) (fun (r_3 : Int32) => (if r_3 = 0 then some ((-2000000000 : Int32), σ) else bo (tw_isDigit1 a3) (fun (r_6 : Int32) => (if r_6 = 0 then some ((-2000000000 : Int32), σ) else bo2 (tw_becomes σ a1 a3) (fun (r_9 : Int32) (σ_10 : ST) => some (r_9, σ_10)))))) else (if a2 = (1 : Int32) then bo (tw_isPerson σ a1) (fun (r_13 : Int32) => (if r_13 = 0 then some ((-2000000000 : Int32), σ) else bo (tw_isDigit1 a3) (fun (r_16 : Int32) => (if r_16 = 0 then some ((-2000000000 : Int32), σ) else bo2 (tw_becomes σ ((10 : Int32) + a1) a3) (fun (r_19 : Int32) (σ_20 : ST) => some (r_19, σ_20)))))) else (if a2 = (2 : Int32) then bo (tw_isPerson σ a1) (fun (r_23 : Int32) => (if r_23 = 0 then some ((-2000000000 : Int32), σ) else bo (tw_within ((a3).toInt64) (0 : Int64) (99 : Int64)) (fun (r_26 : Int32) => (if r_26 = 0 then some ((-2000000000 : Int32), σ) else bo2 (tw_becomes σ ((20 : Int32) + a1) a3) (fun (r_29 : Int32) (σ_30 : ST) => some (r_29, σ_30)))))) else (if a2 = (3 : Int32) then bo (tw_isThing σ a1) (fun (r_33 : Int32) => (if r_33 = 0 then some ((-2000000000 : Int32), σ) else bo (tw_isWorth a3) (fun (r_36 : Int32) => (if r_36 = 0 then some ((-2000000000 : Int32), σ) else bo2 (tw_becomes σ ((30 : Int32) + a1) a3) (fun (r_39 : Int32) (σ_40 : ST) => some (r_39, σ_40)))))) else (if a2 = (4 : Int32) then bo (tw_isThing σ a1) (fun (r_43 : Int32) => (if r_43 = 0 then some ((-2000000000 : Int32), σ) else bo (tw_isDigit1 a3) (fun (r_46 : Int32) => (if r_46 = 0 then some ((-2000000000 : Int32), σ) else bo2 (tw_becomes σ ((36 : Int32) + a1) a3) (fun (r_49 : Int32) (σ_50 : ST) => some (r_49, σ_50)))))) else some ((-2000000000 : Int32), σ))))))
abbrev rm_X3_mend : Room := rmf 2 46
set_option maxHeartbeats 4000000 in
set_option maxRecDepth 100000 in
theorem mt_X3_mend (l : Launch) (G : GT) (σ : ST) (a1 : Int32) (a2 : Int32) (a3 : Int32) {r : Int32} {u : ST} (h : tw_mend σ a1 a2 a3 = some (r, u)) : CI l tw_ft G yX3_mend (ws_ yX3_mend cX3_mend 4 (some .int)) rm_X3_mend 0 0 [.ref (G.2.2.1 0), .int a1, .int a2, .int a3] σ (r, u) := by
  refine m_enterI (by decide) rfl (lv := [(0, .ref (G.2.2.1 0)), (1, .int a1), (2, .int a2), (3, .int a3)]) rfl ?_
  intro p e s m args below meth c H locs ls Q X hret hP hl
  have hx := X.1.1
  have hb := X.1.2.1
  have hown := X.1.2.2.2.1
  have hts := X.1.2.2.2.2
  unfold tw_mend at h
  refine lv_iload_n hx hb dX3_mend_0 rfl (lv_at hl 2 rfl) ?_
  by_cases c_1 : a2 = (0 : Int32)
  · have h := it_t h c_1
    refine lv_tableIn (tgt := 36) hx hb dX3_mend_1 (by rw [c_1]; decide) (by rw [c_1]; decide) (by rw [c_1]; rfl) (by decide) ?_
    refine lv_aload_n hx hb dX3_mend_36 rfl (lv_at hl 0 rfl) ?_
    refine lv_iload_n hx hb dX3_mend_37 rfl (lv_at hl 1 rfl) ?_
    obtain ⟨r_3, e_2, h⟩ := bo_ex h
    refine r_calli (r_runV (rest := []) X hP 0 tw_c0 lk_3 (mt_X3_isPerson l G σ a1 e_2) (cwV 1 hts (lw_V q1927 q1929 qs51 q113 q1930) rfl rfl rfl ⟨rfl, cdX3_isPerson⟩ ⟨Nat.le_of_ble_eq_true rfl, Nat.le_of_ble_eq_true rfl⟩) rfl hl.1 rfl (Nat.le_of_ble_eq_true rfl) dX3_mend_38 ⟨Nat.le_refl _, Nat.le_refl _⟩) hP (fun H locs hP => ?_)
    refine lv_if_eq (tgt := 60) hx hb dX3_mend_41 (by decide) (fun c_4 => ?_) (fun c_4 => ?_)
    · have h := it_t h c_4
      refine lv_ldc hx hb hown (hts _ q1935) dX3_mend_60 ?_
      exact hret _ _ _ _ _ _ dX3_mend_62 rfl (Option.some.inj h) hP
    · have h := it_f h c_4
      refine lv_iload_n hx hb dX3_mend_44 rfl (lv_at hl 3 rfl) ?_
      obtain ⟨r_6, e_5, h⟩ := bo_ex h
      refine r_calli (r_runS (rest := []) X hP (mt_X3_isDigit1 l G σ a3 e_5) (va_cwS 1 hts (lw_S q1892 q1893 q113 q1894) rfl rfl rfl cdX3_isDigit1 ⟨Nat.le_of_ble_eq_true rfl, Nat.le_of_ble_eq_true rfl⟩) rfl hl.1 rfl (Nat.le_of_ble_eq_true rfl) dX3_mend_45 ⟨Nat.le_refl _, Nat.le_refl _⟩) hP (fun H locs hP => ?_)
      refine lv_if_eq (tgt := 60) hx hb dX3_mend_48 (by decide) (fun c_7 => ?_) (fun c_7 => ?_)
      · have h := it_t h c_7
        refine lv_ldc hx hb hown (hts _ q1935) dX3_mend_60 ?_
        exact hret _ _ _ _ _ _ dX3_mend_62 rfl (Option.some.inj h) hP
      · have h := it_f h c_7
        refine lv_aload_n hx hb dX3_mend_51 rfl (lv_at hl 0 rfl) ?_
        refine lv_iload_n hx hb dX3_mend_52 rfl (lv_at hl 1 rfl) ?_
        refine lv_iload_n hx hb dX3_mend_53 rfl (lv_at hl 3 rfl) ?_
        obtain ⟨r_9, σ_10, e_8, h⟩ := bo2_ex h
        refine r_calli (r_runV (rest := []) X hP 0 tw_c0 lk_3 (mt_X3_becomes l G σ a1 a3 e_8) (cwV 2 hts (lw_V q1931 q1933 qs52 q113 q1934) rfl rfl rfl ⟨rfl, cdX3_becomes⟩ ⟨Nat.le_of_ble_eq_true rfl, Nat.le_of_ble_eq_true rfl⟩) rfl hl.1 rfl (Nat.le_of_ble_eq_true rfl) dX3_mend_54 ⟨Nat.le_refl _, Nat.le_refl _⟩) hP (fun H locs hP => ?_)
        refine lv_goto (tgt := 62) hx hb dX3_mend_57 (by decide) ?_
        exact hret _ _ _ _ _ _ dX3_mend_62 rfl (Option.some.inj h) hP
  · have h := it_f h c_1
    by_cases c_11 : a2 = (1 : Int32)
    · have h := it_t h c_11
      refine lv_tableIn (tgt := 63) hx hb dX3_mend_1 (by rw [c_11]; decide) (by rw [c_11]; decide) (by rw [c_11]; rfl) (by decide) ?_
      refine lv_aload_n hx hb dX3_mend_63 rfl (lv_at hl 0 rfl) ?_
      refine lv_iload_n hx hb dX3_mend_64 rfl (lv_at hl 1 rfl) ?_
      obtain ⟨r_13, e_12, h⟩ := bo_ex h
      refine r_calli (r_runV (rest := []) X hP 0 tw_c0 lk_3 (mt_X3_isPerson l G σ a1 e_12) (cwV 1 hts (lw_V q1927 q1929 qs51 q113 q1930) rfl rfl rfl ⟨rfl, cdX3_isPerson⟩ ⟨Nat.le_of_ble_eq_true rfl, Nat.le_of_ble_eq_true rfl⟩) rfl hl.1 rfl (Nat.le_of_ble_eq_true rfl) dX3_mend_65 ⟨Nat.le_refl _, Nat.le_refl _⟩) hP (fun H locs hP => ?_)
      refine lv_if_eq (tgt := 90) hx hb dX3_mend_68 (by decide) (fun c_14 => ?_) (fun c_14 => ?_)
      · have h := it_t h c_14
        refine lv_ldc hx hb hown (hts _ q1935) dX3_mend_90 ?_
        exact hret _ _ _ _ _ _ dX3_mend_92 rfl (Option.some.inj h) hP
      · have h := it_f h c_14
        refine lv_iload_n hx hb dX3_mend_71 rfl (lv_at hl 3 rfl) ?_
        obtain ⟨r_16, e_15, h⟩ := bo_ex h
        refine r_calli (r_runS (rest := []) X hP (mt_X3_isDigit1 l G σ a3 e_15) (va_cwS 1 hts (lw_S q1892 q1893 q113 q1894) rfl rfl rfl cdX3_isDigit1 ⟨Nat.le_of_ble_eq_true rfl, Nat.le_of_ble_eq_true rfl⟩) rfl hl.1 rfl (Nat.le_of_ble_eq_true rfl) dX3_mend_72 ⟨Nat.le_refl _, Nat.le_refl _⟩) hP (fun H locs hP => ?_)
        refine lv_if_eq (tgt := 90) hx hb dX3_mend_75 (by decide) (fun c_17 => ?_) (fun c_17 => ?_)
        · have h := it_t h c_17
          refine lv_ldc hx hb hown (hts _ q1935) dX3_mend_90 ?_
          exact hret _ _ _ _ _ _ dX3_mend_92 rfl (Option.some.inj h) hP
        · have h := it_f h c_17
          refine lv_aload_n hx hb dX3_mend_78 rfl (lv_at hl 0 rfl) ?_
          refine lv_bipush (v := (10 : Int32)) hx hb dX3_mend_79 (by decide) ?_
          refine lv_iload_n hx hb dX3_mend_81 rfl (lv_at hl 1 rfl) ?_
          refine lv_iadd hx hb dX3_mend_82 ?_
          refine lv_iload_n hx hb dX3_mend_83 rfl (lv_at hl 3 rfl) ?_
          obtain ⟨r_19, σ_20, e_18, h⟩ := bo2_ex h
          refine r_calli (r_runV (rest := []) X hP 0 tw_c0 lk_3 (mt_X3_becomes l G σ ((10 : Int32) + a1) a3 e_18) (cwV 2 hts (lw_V q1931 q1933 qs52 q113 q1934) rfl rfl rfl ⟨rfl, cdX3_becomes⟩ ⟨Nat.le_of_ble_eq_true rfl, Nat.le_of_ble_eq_true rfl⟩) rfl hl.1 rfl (Nat.le_of_ble_eq_true rfl) dX3_mend_84 ⟨Nat.le_refl _, Nat.le_refl _⟩) hP (fun H locs hP => ?_)
          refine lv_goto (tgt := 92) hx hb dX3_mend_87 (by decide) ?_
          exact hret _ _ _ _ _ _ dX3_mend_92 rfl (Option.some.inj h) hP
    · have h := it_f h c_11
      by_cases c_21 : a2 = (2 : Int32)
      · have h := it_t h c_21
        refine lv_tableIn (tgt := 93) hx hb dX3_mend_1 (by rw [c_21]; decide) (by rw [c_21]; decide) (by rw [c_21]; rfl) (by decide) ?_
        refine lv_aload_n hx hb dX3_mend_93 rfl (lv_at hl 0 rfl) ?_
        refine lv_iload_n hx hb dX3_mend_94 rfl (lv_at hl 1 rfl) ?_
        obtain ⟨r_23, e_22, h⟩ := bo_ex h
        refine r_calli (r_runV (rest := []) X hP 0 tw_c0 lk_3 (mt_X3_isPerson l G σ a1 e_22) (cwV 1 hts (lw_V q1927 q1929 qs51 q113 q1930) rfl rfl rfl ⟨rfl, cdX3_isPerson⟩ ⟨Nat.le_of_ble_eq_true rfl, Nat.le_of_ble_eq_true rfl⟩) rfl hl.1 rfl (Nat.le_of_ble_eq_true rfl) dX3_mend_95 ⟨Nat.le_refl _, Nat.le_refl _⟩) hP (fun H locs hP => ?_)
        refine lv_if_eq (tgt := 125) hx hb dX3_mend_98 (by decide) (fun c_24 => ?_) (fun c_24 => ?_)
        · have h := it_t h c_24
          refine lv_ldc hx hb hown (hts _ q1935) dX3_mend_125 ?_
          exact hret _ _ _ _ _ _ dX3_mend_127 rfl (Option.some.inj h) hP
        · have h := it_f h c_24
          refine lv_iload_n hx hb dX3_mend_101 rfl (lv_at hl 3 rfl) ?_
          refine lv_i2l hx hb dX3_mend_102 rfl ?_
          refine lv_lconst (v := (0 : Int64)) hx hb dX3_mend_103 (by decide) ?_
          refine lv_ldc2 hx hb hown (hts _ q1879) dX3_mend_104 ?_
          obtain ⟨r_26, e_25, h⟩ := bo_ex h
          refine r_calli (r_runS (rest := []) X hP (mt_X3_within l G σ ((a3).toInt64) (0 : Int64) (99 : Int64) e_25) (va_cwS 3 hts (lw_S q1880 q1881 q113 q1882) rfl rfl rfl cdX3_within ⟨Nat.le_of_ble_eq_true rfl, Nat.le_of_ble_eq_true rfl⟩) rfl hl.1 rfl (Nat.le_of_ble_eq_true rfl) dX3_mend_107 ⟨Nat.le_refl _, Nat.le_refl _⟩) hP (fun H locs hP => ?_)
          refine lv_if_eq (tgt := 125) hx hb dX3_mend_110 (by decide) (fun c_27 => ?_) (fun c_27 => ?_)
          · have h := it_t h c_27
            refine lv_ldc hx hb hown (hts _ q1935) dX3_mend_125 ?_
            exact hret _ _ _ _ _ _ dX3_mend_127 rfl (Option.some.inj h) hP
          · have h := it_f h c_27
            refine lv_aload_n hx hb dX3_mend_113 rfl (lv_at hl 0 rfl) ?_
            refine lv_bipush (v := (20 : Int32)) hx hb dX3_mend_114 (by decide) ?_
            refine lv_iload_n hx hb dX3_mend_116 rfl (lv_at hl 1 rfl) ?_
            refine lv_iadd hx hb dX3_mend_117 ?_
            refine lv_iload_n hx hb dX3_mend_118 rfl (lv_at hl 3 rfl) ?_
            obtain ⟨r_29, σ_30, e_28, h⟩ := bo2_ex h
            refine r_calli (r_runV (rest := []) X hP 0 tw_c0 lk_3 (mt_X3_becomes l G σ ((20 : Int32) + a1) a3 e_28) (cwV 2 hts (lw_V q1931 q1933 qs52 q113 q1934) rfl rfl rfl ⟨rfl, cdX3_becomes⟩ ⟨Nat.le_of_ble_eq_true rfl, Nat.le_of_ble_eq_true rfl⟩) rfl hl.1 rfl (Nat.le_of_ble_eq_true rfl) dX3_mend_119 ⟨Nat.le_refl _, Nat.le_refl _⟩) hP (fun H locs hP => ?_)
            refine lv_goto (tgt := 127) hx hb dX3_mend_122 (by decide) ?_
            exact hret _ _ _ _ _ _ dX3_mend_127 rfl (Option.some.inj h) hP
      · have h := it_f h c_21
        by_cases c_31 : a2 = (3 : Int32)
        · have h := it_t h c_31
          refine lv_tableIn (tgt := 128) hx hb dX3_mend_1 (by rw [c_31]; decide) (by rw [c_31]; decide) (by rw [c_31]; rfl) (by decide) ?_
          refine lv_aload_n hx hb dX3_mend_128 rfl (lv_at hl 0 rfl) ?_
          refine lv_iload_n hx hb dX3_mend_129 rfl (lv_at hl 1 rfl) ?_
          obtain ⟨r_33, e_32, h⟩ := bo_ex h
          refine r_calli (r_runV (rest := []) X hP 0 tw_c0 lk_3 (mt_X3_isThing l G σ a1 e_32) (cwV 1 hts (lw_V q1936 q1938 qs53 q113 q1939) rfl rfl rfl ⟨rfl, cdX3_isThing⟩ ⟨Nat.le_of_ble_eq_true rfl, Nat.le_of_ble_eq_true rfl⟩) rfl hl.1 rfl (Nat.le_of_ble_eq_true rfl) dX3_mend_130 ⟨Nat.le_refl _, Nat.le_refl _⟩) hP (fun H locs hP => ?_)
          refine lv_if_eq (tgt := 155) hx hb dX3_mend_133 (by decide) (fun c_34 => ?_) (fun c_34 => ?_)
          · have h := it_t h c_34
            refine lv_ldc hx hb hown (hts _ q1935) dX3_mend_155 ?_
            exact hret _ _ _ _ _ _ dX3_mend_157 rfl (Option.some.inj h) hP
          · have h := it_f h c_34
            refine lv_iload_n hx hb dX3_mend_136 rfl (lv_at hl 3 rfl) ?_
            obtain ⟨r_36, e_35, h⟩ := bo_ex h
            refine r_calli (r_runS (rest := []) X hP (mt_X3_isWorth l G σ a3 e_35) (va_cwS 1 hts (lw_S q1888 q1889 q113 q1890) rfl rfl rfl cdX3_isWorth ⟨Nat.le_of_ble_eq_true rfl, Nat.le_of_ble_eq_true rfl⟩) rfl hl.1 rfl (Nat.le_of_ble_eq_true rfl) dX3_mend_137 ⟨Nat.le_refl _, Nat.le_refl _⟩) hP (fun H locs hP => ?_)
            refine lv_if_eq (tgt := 155) hx hb dX3_mend_140 (by decide) (fun c_37 => ?_) (fun c_37 => ?_)
            · have h := it_t h c_37
              refine lv_ldc hx hb hown (hts _ q1935) dX3_mend_155 ?_
              exact hret _ _ _ _ _ _ dX3_mend_157 rfl (Option.some.inj h) hP
            · have h := it_f h c_37
              refine lv_aload_n hx hb dX3_mend_143 rfl (lv_at hl 0 rfl) ?_
              refine lv_bipush (v := (30 : Int32)) hx hb dX3_mend_144 (by decide) ?_
              refine lv_iload_n hx hb dX3_mend_146 rfl (lv_at hl 1 rfl) ?_
              refine lv_iadd hx hb dX3_mend_147 ?_
              refine lv_iload_n hx hb dX3_mend_148 rfl (lv_at hl 3 rfl) ?_
              obtain ⟨r_39, σ_40, e_38, h⟩ := bo2_ex h
              refine r_calli (r_runV (rest := []) X hP 0 tw_c0 lk_3 (mt_X3_becomes l G σ ((30 : Int32) + a1) a3 e_38) (cwV 2 hts (lw_V q1931 q1933 qs52 q113 q1934) rfl rfl rfl ⟨rfl, cdX3_becomes⟩ ⟨Nat.le_of_ble_eq_true rfl, Nat.le_of_ble_eq_true rfl⟩) rfl hl.1 rfl (Nat.le_of_ble_eq_true rfl) dX3_mend_149 ⟨Nat.le_refl _, Nat.le_refl _⟩) hP (fun H locs hP => ?_)
              refine lv_goto (tgt := 157) hx hb dX3_mend_152 (by decide) ?_
              exact hret _ _ _ _ _ _ dX3_mend_157 rfl (Option.some.inj h) hP
        · have h := it_f h c_31
          by_cases c_41 : a2 = (4 : Int32)
          · have h := it_t h c_41
            refine lv_tableIn (tgt := 158) hx hb dX3_mend_1 (by rw [c_41]; decide) (by rw [c_41]; decide) (by rw [c_41]; rfl) (by decide) ?_
            refine lv_aload_n hx hb dX3_mend_158 rfl (lv_at hl 0 rfl) ?_
            refine lv_iload_n hx hb dX3_mend_159 rfl (lv_at hl 1 rfl) ?_
            obtain ⟨r_43, e_42, h⟩ := bo_ex h
            refine r_calli (r_runV (rest := []) X hP 0 tw_c0 lk_3 (mt_X3_isThing l G σ a1 e_42) (cwV 1 hts (lw_V q1936 q1938 qs53 q113 q1939) rfl rfl rfl ⟨rfl, cdX3_isThing⟩ ⟨Nat.le_of_ble_eq_true rfl, Nat.le_of_ble_eq_true rfl⟩) rfl hl.1 rfl (Nat.le_of_ble_eq_true rfl) dX3_mend_160 ⟨Nat.le_refl _, Nat.le_refl _⟩) hP (fun H locs hP => ?_)
            refine lv_if_eq (tgt := 185) hx hb dX3_mend_163 (by decide) (fun c_44 => ?_) (fun c_44 => ?_)
            · have h := it_t h c_44
              refine lv_ldc hx hb hown (hts _ q1935) dX3_mend_185 ?_
              exact hret _ _ _ _ _ _ dX3_mend_187 rfl (Option.some.inj h) hP
            · have h := it_f h c_44
              refine lv_iload_n hx hb dX3_mend_166 rfl (lv_at hl 3 rfl) ?_
              obtain ⟨r_46, e_45, h⟩ := bo_ex h
              refine r_calli (r_runS (rest := []) X hP (mt_X3_isDigit1 l G σ a3 e_45) (va_cwS 1 hts (lw_S q1892 q1893 q113 q1894) rfl rfl rfl cdX3_isDigit1 ⟨Nat.le_of_ble_eq_true rfl, Nat.le_of_ble_eq_true rfl⟩) rfl hl.1 rfl (Nat.le_of_ble_eq_true rfl) dX3_mend_167 ⟨Nat.le_refl _, Nat.le_refl _⟩) hP (fun H locs hP => ?_)
              refine lv_if_eq (tgt := 185) hx hb dX3_mend_170 (by decide) (fun c_47 => ?_) (fun c_47 => ?_)
              · have h := it_t h c_47
                refine lv_ldc hx hb hown (hts _ q1935) dX3_mend_185 ?_
                exact hret _ _ _ _ _ _ dX3_mend_187 rfl (Option.some.inj h) hP
              · have h := it_f h c_47
                refine lv_aload_n hx hb dX3_mend_173 rfl (lv_at hl 0 rfl) ?_
                refine lv_bipush (v := (36 : Int32)) hx hb dX3_mend_174 (by decide) ?_
                refine lv_iload_n hx hb dX3_mend_176 rfl (lv_at hl 1 rfl) ?_
                refine lv_iadd hx hb dX3_mend_177 ?_
                refine lv_iload_n hx hb dX3_mend_178 rfl (lv_at hl 3 rfl) ?_
                obtain ⟨r_49, σ_50, e_48, h⟩ := bo2_ex h
                refine r_calli (r_runV (rest := []) X hP 0 tw_c0 lk_3 (mt_X3_becomes l G σ ((36 : Int32) + a1) a3 e_48) (cwV 2 hts (lw_V q1931 q1933 qs52 q113 q1934) rfl rfl rfl ⟨rfl, cdX3_becomes⟩ ⟨Nat.le_of_ble_eq_true rfl, Nat.le_of_ble_eq_true rfl⟩) rfl hl.1 rfl (Nat.le_of_ble_eq_true rfl) dX3_mend_179 ⟨Nat.le_refl _, Nat.le_refl _⟩) hP (fun H locs hP => ?_)
                refine lv_goto (tgt := 187) hx hb dX3_mend_182 (by decide) ?_
                exact hret _ _ _ _ _ _ dX3_mend_187 rfl (Option.some.inj h) hP
          · have h := it_f h c_41
            refine lv_tableOut (tgt := 188) hx hb dX3_mend_1 (by have n0 := lv_neT c_1 (a := 0) (by decide); have n1 := lv_neT c_11 (a := 1) (by decide); have n2 := lv_neT c_21 (a := 2) (by decide); have n3 := lv_neT c_31 (a := 3) (by decide); have n4 := lv_neT c_41 (a := 4) (by decide); omega) (by decide) ?_
            refine lv_ldc hx hb hown (hts _ q1935) dX3_mend_188 ?_
            exact hret _ _ _ _ _ _ dX3_mend_190 rfl (Option.some.inj h) hP
def tw_isCard (σ : ST) (a1 : Int32) : Option Int32 :=
  bo (tw_within ((a1).toInt64) (0 : Int64) ((((gI σ 0 9) - (1 : Int32))).toInt64)) (fun (r_2 : Int32) => bz r_2 (some r_2))
abbrev rm_X3_isCard : Room := rmf 1 25
set_option maxHeartbeats 4000000 in
set_option maxRecDepth 100000 in
theorem mt_X3_isCard (l : Launch) (G : GT) (σ : ST) (a1 : Int32) {r : Int32} (h : tw_isCard σ a1 = some r) : CI l tw_ft G yX3_isCard (ws_ yX3_isCard cX3_isCard 2 (some .boolean)) rm_X3_isCard 0 0 [.ref (G.2.2.1 0), .int a1] σ (r, σ) := by
  refine m_enterI (by decide) rfl (lv := [(0, .ref (G.2.2.1 0)), (1, .int a1)]) rfl ?_
  intro p e s m args below meth c H locs ls Q X hret hP hl
  have hx := X.1.1
  have hb := X.1.2.1
  have hown := X.1.2.2.2.1
  have hts := X.1.2.2.2.2
  unfold tw_isCard at h
  refine lv_iload_n hx hb dX3_isCard_0 rfl (lv_at hl 1 rfl) ?_
  refine lv_i2l hx hb dX3_isCard_1 rfl ?_
  refine lv_lconst (v := (0 : Int64)) hx hb dX3_isCard_2 (by decide) ?_
  refine lv_aload_n hx hb dX3_isCard_3 rfl (lv_at hl 0 rfl) ?_
  refine r_geti X hP 0 tw_c0 lk_3 9 (Nat.le_of_ble_eq_true rfl) q1647 tw_f9 dX3_isCard_4 ?_
  refine lv_iconst (v := (1 : Int32)) hx hb dX3_isCard_7 (by decide) ?_
  refine lv_isub hx hb dX3_isCard_8 ?_
  refine lv_i2l hx hb dX3_isCard_9 rfl ?_
  obtain ⟨r_2, e_1, h⟩ := bo_ex h
  refine r_calli (r_runS (rest := []) X hP (mt_X3_within l G σ ((a1).toInt64) (0 : Int64) ((((gI σ 0 9) - (1 : Int32))).toInt64) e_1) (va_cwS 3 hts (lw_S q1880 q1881 q113 q1882) rfl rfl rfl cdX3_within ⟨Nat.le_of_ble_eq_true rfl, Nat.le_of_ble_eq_true rfl⟩) rfl hl.1 rfl (Nat.le_of_ble_eq_true rfl) dX3_isCard_10 ⟨Nat.le_refl _, Nat.le_refl _⟩) hP (fun H locs hP => ?_)
  exact hret _ _ _ _ _ _ dX3_isCard_13 (bz_or h) (congrArg (fun z9 => (z9, σ)) (Option.some.inj (bz_k h))) hP
def tw_of (σ : ST) (a1 : Int32) (a2 : Int32) : Option Int32 :=
  (if a2 = (0 : Int32) then bo (tw_isPerson σ a1) (fun (r_3 : Int32) => (if r_3 = 0 then some (-2000000000 : Int32) else ck a1 42 (some (lI σ 0 0 a1)))) else (if a2 = (1 : Int32) then bo (tw_isPerson σ a1) (fun (r_7 : Int32) => (if r_7 = 0 then some (-2000000000 : Int32) else ck ((10 : Int32) + a1) 42 (some (lI σ 0 0 ((10 : Int32) + a1))))) else (if a2 = (2 : Int32) then bo (tw_isPerson σ a1) (fun (r_11 : Int32) => (if r_11 = 0 then some (-2000000000 : Int32) else ck a1 10 (some (lI σ 0 7 a1)))) else (if a2 = (3 : Int32) then bo (tw_isPerson σ a1) (fun (r_15 : Int32) => (if r_15 = 0 then some (-2000000000 : Int32) else ck ((20 : Int32) + a1) 42 (some (lI σ 0 0 ((20 : Int32) + a1))))) else (if a2 = (4 : Int32) then some (-2000000000 : Int32) else (if a2 = (5 : Int32) then some (-2000000000 : Int32) else (if a2 = (6 : Int32) then some (-2000000000 : Int32) else (if a2 = (7 : Int32) then some (-2000000000 : Int32) else (if a2 = (8 : Int32) then some (-2000000000 : Int32) else (if a2 = (9 : Int32) then some (-2000000000 : Int32) else (if a2 = (10 : Int32) then bo (tw_isThing σ a1) (fun (r_25 : Int32) => (if r_25 = 0 then some (-2000000000 : Int32) else ck ((30 : Int32) + a1) 42 (some (lI σ 0 0 ((30 : Int32) + a1))))) else (if a2 = (11 : Int32) then bo (tw_isThing σ a1) (fun (r_29 : Int32) => (if r_29 = 0 then some (-2000000000 : Int32) else ck ((36 : Int32) + a1) 42 (some (lI σ 0 0 ((36 : Int32) + a1))))) else (if a2 = (12 : Int32) then some (-2000000000 : Int32) else (if a2 = (13 : Int32) then some (-2000000000 : Int32) else (if a2 = (14 : Int32) then some (-2000000000 : Int32) else (if a2 = (15 : Int32) then some (-2000000000 : Int32) else (if a2 = (16 : Int32) then some (-2000000000 : Int32) else (if a2 = (17 : Int32) then some (-2000000000 : Int32) else (if a2 = (18 : Int32) then some (-2000000000 : Int32) else (if a2 = (19 : Int32) then some (-2000000000 : Int32) else (if a2 = (20 : Int32) then bo (tw_isCard σ a1) (fun (r_41 : Int32) => (if r_41 = 0 then some (-2000000000 : Int32) else ck a1 20 (some (lI σ 0 10 a1)))) else (if a2 = (21 : Int32) then bo (tw_isCard σ a1) (fun (r_45 : Int32) => (if r_45 = 0 then some (-2000000000 : Int32) else ck a1 20 (some (lI σ 0 11 a1)))) else (if a2 = (22 : Int32) then bo (tw_isCard σ a1) (fun (r_49 : Int32) => (if r_49 = 0 then some (-2000000000 : Int32) else ck a1 20 (some (lI σ 0 12 a1)))) else some (-2000000000 : Int32))))))))))))))))))))))))
abbrev rm_X3_of : Room := rmf 2 46
set_option maxHeartbeats 4000000 in
set_option maxRecDepth 100000 in
theorem mt_X3_of (l : Launch) (G : GT) (σ : ST) (a1 : Int32) (a2 : Int32) {r : Int32} (h : tw_of σ a1 a2 = some r) : CI l tw_ft G yX3_of (ws_ yX3_of cX3_of 3 (some .int)) rm_X3_of 0 0 [.ref (G.2.2.1 0), .int a1, .int a2] σ (r, σ) := by
  refine m_enterI (by decide) rfl (lv := [(0, .ref (G.2.2.1 0)), (1, .int a1), (2, .int a2)]) rfl ?_
  intro p e s m args below meth c H locs ls Q X hret hP hl
  have hx := X.1.1
  have hb := X.1.2.1
  have hown := X.1.2.2.2.1
  have hts := X.1.2.2.2.2
  unfold tw_of at h
  refine lv_iload_n hx hb dX3_of_0 rfl (lv_at hl 2 rfl) ?_
  by_cases c_1 : a2 = (0 : Int32)
  · have h := it_t h c_1
    refine lv_tableIn (tgt := 108) hx hb dX3_of_1 (by rw [c_1]; decide) (by rw [c_1]; decide) (by rw [c_1]; rfl) (by decide) ?_
    refine lv_aload_n hx hb dX3_of_108 rfl (lv_at hl 0 rfl) ?_
    refine lv_iload_n hx hb dX3_of_109 rfl (lv_at hl 1 rfl) ?_
    obtain ⟨r_3, e_2, h⟩ := bo_ex h
    refine r_calli (r_runV (rest := []) X hP 0 tw_c0 lk_3 (mt_X3_isPerson l G σ a1 e_2) (cwV 1 hts (lw_V q1927 q1929 qs51 q113 q1930) rfl rfl rfl ⟨rfl, cdX3_isPerson⟩ ⟨Nat.le_of_ble_eq_true rfl, Nat.le_of_ble_eq_true rfl⟩) rfl hl.1 rfl (Nat.le_of_ble_eq_true rfl) dX3_of_110 ⟨Nat.le_refl _, Nat.le_refl _⟩) hP (fun H locs hP => ?_)
    refine lv_if_eq (tgt := 125) hx hb dX3_of_113 (by decide) (fun c_4 => ?_) (fun c_4 => ?_)
    · have h := it_t h c_4
      refine lv_ldc hx hb hown (hts _ q1935) dX3_of_125 ?_
      exact hret _ _ _ _ _ _ dX3_of_127 rfl (congrArg (fun z9 => (z9, σ)) (Option.some.inj h)) hP
    · have h := it_f h c_4
      refine lv_aload_n hx hb dX3_of_116 rfl (lv_at hl 0 rfl) ?_
      refine r_geta X hP 0 tw_c0 lk_3 0 (Nat.le_of_ble_eq_true rfl) q1638 tw_f0 dX3_of_117 ?_
      refine lv_iload_n hx hb dX3_of_120 rfl (lv_at hl 1 rfl) ?_
      refine r_iald X hP 1 tw_c1 (ck_in h) dX3_of_121 ?_
      have h := ck_k h
      refine lv_goto (tgt := 127) hx hb dX3_of_122 (by decide) ?_
      exact hret _ _ _ _ _ _ dX3_of_127 rfl (congrArg (fun z9 => (z9, σ)) (Option.some.inj h)) hP
  · have h := it_f h c_1
    by_cases c_5 : a2 = (1 : Int32)
    · have h := it_t h c_5
      refine lv_tableIn (tgt := 128) hx hb dX3_of_1 (by rw [c_5]; decide) (by rw [c_5]; decide) (by rw [c_5]; rfl) (by decide) ?_
      refine lv_aload_n hx hb dX3_of_128 rfl (lv_at hl 0 rfl) ?_
      refine lv_iload_n hx hb dX3_of_129 rfl (lv_at hl 1 rfl) ?_
      obtain ⟨r_7, e_6, h⟩ := bo_ex h
      refine r_calli (r_runV (rest := []) X hP 0 tw_c0 lk_3 (mt_X3_isPerson l G σ a1 e_6) (cwV 1 hts (lw_V q1927 q1929 qs51 q113 q1930) rfl rfl rfl ⟨rfl, cdX3_isPerson⟩ ⟨Nat.le_of_ble_eq_true rfl, Nat.le_of_ble_eq_true rfl⟩) rfl hl.1 rfl (Nat.le_of_ble_eq_true rfl) dX3_of_130 ⟨Nat.le_refl _, Nat.le_refl _⟩) hP (fun H locs hP => ?_)
      refine lv_if_eq (tgt := 148) hx hb dX3_of_133 (by decide) (fun c_8 => ?_) (fun c_8 => ?_)
      · have h := it_t h c_8
        refine lv_ldc hx hb hown (hts _ q1935) dX3_of_148 ?_
        exact hret _ _ _ _ _ _ dX3_of_150 rfl (congrArg (fun z9 => (z9, σ)) (Option.some.inj h)) hP
      · have h := it_f h c_8
        refine lv_aload_n hx hb dX3_of_136 rfl (lv_at hl 0 rfl) ?_
        refine r_geta X hP 0 tw_c0 lk_3 0 (Nat.le_of_ble_eq_true rfl) q1638 tw_f0 dX3_of_137 ?_
        refine lv_bipush (v := (10 : Int32)) hx hb dX3_of_140 (by decide) ?_
        refine lv_iload_n hx hb dX3_of_142 rfl (lv_at hl 1 rfl) ?_
        refine lv_iadd hx hb dX3_of_143 ?_
        refine r_iald X hP 1 tw_c1 (ck_in h) dX3_of_144 ?_
        have h := ck_k h
        refine lv_goto (tgt := 150) hx hb dX3_of_145 (by decide) ?_
        exact hret _ _ _ _ _ _ dX3_of_150 rfl (congrArg (fun z9 => (z9, σ)) (Option.some.inj h)) hP
    · have h := it_f h c_5
      by_cases c_9 : a2 = (2 : Int32)
      · have h := it_t h c_9
        refine lv_tableIn (tgt := 151) hx hb dX3_of_1 (by rw [c_9]; decide) (by rw [c_9]; decide) (by rw [c_9]; rfl) (by decide) ?_
        refine lv_aload_n hx hb dX3_of_151 rfl (lv_at hl 0 rfl) ?_
        refine lv_iload_n hx hb dX3_of_152 rfl (lv_at hl 1 rfl) ?_
        obtain ⟨r_11, e_10, h⟩ := bo_ex h
        refine r_calli (r_runV (rest := []) X hP 0 tw_c0 lk_3 (mt_X3_isPerson l G σ a1 e_10) (cwV 1 hts (lw_V q1927 q1929 qs51 q113 q1930) rfl rfl rfl ⟨rfl, cdX3_isPerson⟩ ⟨Nat.le_of_ble_eq_true rfl, Nat.le_of_ble_eq_true rfl⟩) rfl hl.1 rfl (Nat.le_of_ble_eq_true rfl) dX3_of_153 ⟨Nat.le_refl _, Nat.le_refl _⟩) hP (fun H locs hP => ?_)
        refine lv_if_eq (tgt := 168) hx hb dX3_of_156 (by decide) (fun c_12 => ?_) (fun c_12 => ?_)
        · have h := it_t h c_12
          refine lv_ldc hx hb hown (hts _ q1935) dX3_of_168 ?_
          exact hret _ _ _ _ _ _ dX3_of_170 rfl (congrArg (fun z9 => (z9, σ)) (Option.some.inj h)) hP
        · have h := it_f h c_12
          refine lv_aload_n hx hb dX3_of_159 rfl (lv_at hl 0 rfl) ?_
          refine r_geta X hP 0 tw_c0 lk_3 7 (Nat.le_of_ble_eq_true rfl) q1645 tw_f7 dX3_of_160 ?_
          refine lv_iload_n hx hb dX3_of_163 rfl (lv_at hl 1 rfl) ?_
          refine r_iald X hP 5 tw_c5 (ck_in h) dX3_of_164 ?_
          have h := ck_k h
          refine lv_goto (tgt := 170) hx hb dX3_of_165 (by decide) ?_
          exact hret _ _ _ _ _ _ dX3_of_170 rfl (congrArg (fun z9 => (z9, σ)) (Option.some.inj h)) hP
      · have h := it_f h c_9
        by_cases c_13 : a2 = (3 : Int32)
        · have h := it_t h c_13
          refine lv_tableIn (tgt := 171) hx hb dX3_of_1 (by rw [c_13]; decide) (by rw [c_13]; decide) (by rw [c_13]; rfl) (by decide) ?_
          refine lv_aload_n hx hb dX3_of_171 rfl (lv_at hl 0 rfl) ?_
          refine lv_iload_n hx hb dX3_of_172 rfl (lv_at hl 1 rfl) ?_
          obtain ⟨r_15, e_14, h⟩ := bo_ex h
          refine r_calli (r_runV (rest := []) X hP 0 tw_c0 lk_3 (mt_X3_isPerson l G σ a1 e_14) (cwV 1 hts (lw_V q1927 q1929 qs51 q113 q1930) rfl rfl rfl ⟨rfl, cdX3_isPerson⟩ ⟨Nat.le_of_ble_eq_true rfl, Nat.le_of_ble_eq_true rfl⟩) rfl hl.1 rfl (Nat.le_of_ble_eq_true rfl) dX3_of_173 ⟨Nat.le_refl _, Nat.le_refl _⟩) hP (fun H locs hP => ?_)
          refine lv_if_eq (tgt := 191) hx hb dX3_of_176 (by decide) (fun c_16 => ?_) (fun c_16 => ?_)
          · have h := it_t h c_16
            refine lv_ldc hx hb hown (hts _ q1935) dX3_of_191 ?_
            exact hret _ _ _ _ _ _ dX3_of_193 rfl (congrArg (fun z9 => (z9, σ)) (Option.some.inj h)) hP
          · have h := it_f h c_16
            refine lv_aload_n hx hb dX3_of_179 rfl (lv_at hl 0 rfl) ?_
            refine r_geta X hP 0 tw_c0 lk_3 0 (Nat.le_of_ble_eq_true rfl) q1638 tw_f0 dX3_of_180 ?_
            refine lv_bipush (v := (20 : Int32)) hx hb dX3_of_183 (by decide) ?_
            refine lv_iload_n hx hb dX3_of_185 rfl (lv_at hl 1 rfl) ?_
            refine lv_iadd hx hb dX3_of_186 ?_
            refine r_iald X hP 1 tw_c1 (ck_in h) dX3_of_187 ?_
            have h := ck_k h
            refine lv_goto (tgt := 193) hx hb dX3_of_188 (by decide) ?_
            exact hret _ _ _ _ _ _ dX3_of_193 rfl (congrArg (fun z9 => (z9, σ)) (Option.some.inj h)) hP
        · have h := it_f h c_13
          by_cases c_17 : a2 = (4 : Int32)
          · have h := it_t h c_17
            refine lv_tableIn (tgt := 300) hx hb dX3_of_1 (by rw [c_17]; decide) (by rw [c_17]; decide) (by rw [c_17]; rfl) (by decide) ?_
            refine lv_ldc hx hb hown (hts _ q1935) dX3_of_300 ?_
            exact hret _ _ _ _ _ _ dX3_of_302 rfl (congrArg (fun z9 => (z9, σ)) (Option.some.inj h)) hP
          · have h := it_f h c_17
            by_cases c_18 : a2 = (5 : Int32)
            · have h := it_t h c_18
              refine lv_tableIn (tgt := 300) hx hb dX3_of_1 (by rw [c_18]; decide) (by rw [c_18]; decide) (by rw [c_18]; rfl) (by decide) ?_
              refine lv_ldc hx hb hown (hts _ q1935) dX3_of_300 ?_
              exact hret _ _ _ _ _ _ dX3_of_302 rfl (congrArg (fun z9 => (z9, σ)) (Option.some.inj h)) hP
            · have h := it_f h c_18
              by_cases c_19 : a2 = (6 : Int32)
              · have h := it_t h c_19
                refine lv_tableIn (tgt := 300) hx hb dX3_of_1 (by rw [c_19]; decide) (by rw [c_19]; decide) (by rw [c_19]; rfl) (by decide) ?_
                refine lv_ldc hx hb hown (hts _ q1935) dX3_of_300 ?_
                exact hret _ _ _ _ _ _ dX3_of_302 rfl (congrArg (fun z9 => (z9, σ)) (Option.some.inj h)) hP
              · have h := it_f h c_19
                by_cases c_20 : a2 = (7 : Int32)
                · have h := it_t h c_20
                  refine lv_tableIn (tgt := 300) hx hb dX3_of_1 (by rw [c_20]; decide) (by rw [c_20]; decide) (by rw [c_20]; rfl) (by decide) ?_
                  refine lv_ldc hx hb hown (hts _ q1935) dX3_of_300 ?_
                  exact hret _ _ _ _ _ _ dX3_of_302 rfl (congrArg (fun z9 => (z9, σ)) (Option.some.inj h)) hP
                · have h := it_f h c_20
                  by_cases c_21 : a2 = (8 : Int32)
                  · have h := it_t h c_21
                    refine lv_tableIn (tgt := 300) hx hb dX3_of_1 (by rw [c_21]; decide) (by rw [c_21]; decide) (by rw [c_21]; rfl) (by decide) ?_
                    refine lv_ldc hx hb hown (hts _ q1935) dX3_of_300 ?_
                    exact hret _ _ _ _ _ _ dX3_of_302 rfl (congrArg (fun z9 => (z9, σ)) (Option.some.inj h)) hP
                  · have h := it_f h c_21
                    by_cases c_22 : a2 = (9 : Int32)
                    · have h := it_t h c_22
                      refine lv_tableIn (tgt := 300) hx hb dX3_of_1 (by rw [c_22]; decide) (by rw [c_22]; decide) (by rw [c_22]; rfl) (by decide) ?_
                      refine lv_ldc hx hb hown (hts _ q1935) dX3_of_300 ?_
                      exact hret _ _ _ _ _ _ dX3_of_302 rfl (congrArg (fun z9 => (z9, σ)) (Option.some.inj h)) hP
                    · have h := it_f h c_22
                      by_cases c_23 : a2 = (10 : Int32)
                      · have h := it_t h c_23
                        refine lv_tableIn (tgt := 194) hx hb dX3_of_1 (by rw [c_23]; decide) (by rw [c_23]; decide) (by rw [c_23]; rfl) (by decide) ?_
                        refine lv_aload_n hx hb dX3_of_194 rfl (lv_at hl 0 rfl) ?_
                        refine lv_iload_n hx hb dX3_of_195 rfl (lv_at hl 1 rfl) ?_
                        obtain ⟨r_25, e_24, h⟩ := bo_ex h
                        refine r_calli (r_runV (rest := []) X hP 0 tw_c0 lk_3 (mt_X3_isThing l G σ a1 e_24) (cwV 1 hts (lw_V q1936 q1938 qs53 q113 q1939) rfl rfl rfl ⟨rfl, cdX3_isThing⟩ ⟨Nat.le_of_ble_eq_true rfl, Nat.le_of_ble_eq_true rfl⟩) rfl hl.1 rfl (Nat.le_of_ble_eq_true rfl) dX3_of_196 ⟨Nat.le_refl _, Nat.le_refl _⟩) hP (fun H locs hP => ?_)
                        refine lv_if_eq (tgt := 214) hx hb dX3_of_199 (by decide) (fun c_26 => ?_) (fun c_26 => ?_)
                        · have h := it_t h c_26
                          refine lv_ldc hx hb hown (hts _ q1935) dX3_of_214 ?_
                          exact hret _ _ _ _ _ _ dX3_of_216 rfl (congrArg (fun z9 => (z9, σ)) (Option.some.inj h)) hP
                        · have h := it_f h c_26
                          refine lv_aload_n hx hb dX3_of_202 rfl (lv_at hl 0 rfl) ?_
                          refine r_geta X hP 0 tw_c0 lk_3 0 (Nat.le_of_ble_eq_true rfl) q1638 tw_f0 dX3_of_203 ?_
                          refine lv_bipush (v := (30 : Int32)) hx hb dX3_of_206 (by decide) ?_
                          refine lv_iload_n hx hb dX3_of_208 rfl (lv_at hl 1 rfl) ?_
                          refine lv_iadd hx hb dX3_of_209 ?_
                          refine r_iald X hP 1 tw_c1 (ck_in h) dX3_of_210 ?_
                          have h := ck_k h
                          refine lv_goto (tgt := 216) hx hb dX3_of_211 (by decide) ?_
                          exact hret _ _ _ _ _ _ dX3_of_216 rfl (congrArg (fun z9 => (z9, σ)) (Option.some.inj h)) hP
                      · have h := it_f h c_23
                        by_cases c_27 : a2 = (11 : Int32)
                        · have h := it_t h c_27
                          refine lv_tableIn (tgt := 217) hx hb dX3_of_1 (by rw [c_27]; decide) (by rw [c_27]; decide) (by rw [c_27]; rfl) (by decide) ?_
                          refine lv_aload_n hx hb dX3_of_217 rfl (lv_at hl 0 rfl) ?_
                          refine lv_iload_n hx hb dX3_of_218 rfl (lv_at hl 1 rfl) ?_
                          obtain ⟨r_29, e_28, h⟩ := bo_ex h
                          refine r_calli (r_runV (rest := []) X hP 0 tw_c0 lk_3 (mt_X3_isThing l G σ a1 e_28) (cwV 1 hts (lw_V q1936 q1938 qs53 q113 q1939) rfl rfl rfl ⟨rfl, cdX3_isThing⟩ ⟨Nat.le_of_ble_eq_true rfl, Nat.le_of_ble_eq_true rfl⟩) rfl hl.1 rfl (Nat.le_of_ble_eq_true rfl) dX3_of_219 ⟨Nat.le_refl _, Nat.le_refl _⟩) hP (fun H locs hP => ?_)
                          refine lv_if_eq (tgt := 237) hx hb dX3_of_222 (by decide) (fun c_30 => ?_) (fun c_30 => ?_)
                          · have h := it_t h c_30
                            refine lv_ldc hx hb hown (hts _ q1935) dX3_of_237 ?_
                            exact hret _ _ _ _ _ _ dX3_of_239 rfl (congrArg (fun z9 => (z9, σ)) (Option.some.inj h)) hP
                          · have h := it_f h c_30
                            refine lv_aload_n hx hb dX3_of_225 rfl (lv_at hl 0 rfl) ?_
                            refine r_geta X hP 0 tw_c0 lk_3 0 (Nat.le_of_ble_eq_true rfl) q1638 tw_f0 dX3_of_226 ?_
                            refine lv_bipush (v := (36 : Int32)) hx hb dX3_of_229 (by decide) ?_
                            refine lv_iload_n hx hb dX3_of_231 rfl (lv_at hl 1 rfl) ?_
                            refine lv_iadd hx hb dX3_of_232 ?_
                            refine r_iald X hP 1 tw_c1 (ck_in h) dX3_of_233 ?_
                            have h := ck_k h
                            refine lv_goto (tgt := 239) hx hb dX3_of_234 (by decide) ?_
                            exact hret _ _ _ _ _ _ dX3_of_239 rfl (congrArg (fun z9 => (z9, σ)) (Option.some.inj h)) hP
                        · have h := it_f h c_27
                          by_cases c_31 : a2 = (12 : Int32)
                          · have h := it_t h c_31
                            refine lv_tableIn (tgt := 300) hx hb dX3_of_1 (by rw [c_31]; decide) (by rw [c_31]; decide) (by rw [c_31]; rfl) (by decide) ?_
                            refine lv_ldc hx hb hown (hts _ q1935) dX3_of_300 ?_
                            exact hret _ _ _ _ _ _ dX3_of_302 rfl (congrArg (fun z9 => (z9, σ)) (Option.some.inj h)) hP
                          · have h := it_f h c_31
                            by_cases c_32 : a2 = (13 : Int32)
                            · have h := it_t h c_32
                              refine lv_tableIn (tgt := 300) hx hb dX3_of_1 (by rw [c_32]; decide) (by rw [c_32]; decide) (by rw [c_32]; rfl) (by decide) ?_
                              refine lv_ldc hx hb hown (hts _ q1935) dX3_of_300 ?_
                              exact hret _ _ _ _ _ _ dX3_of_302 rfl (congrArg (fun z9 => (z9, σ)) (Option.some.inj h)) hP
                            · have h := it_f h c_32
                              by_cases c_33 : a2 = (14 : Int32)
                              · have h := it_t h c_33
                                refine lv_tableIn (tgt := 300) hx hb dX3_of_1 (by rw [c_33]; decide) (by rw [c_33]; decide) (by rw [c_33]; rfl) (by decide) ?_
                                refine lv_ldc hx hb hown (hts _ q1935) dX3_of_300 ?_
                                exact hret _ _ _ _ _ _ dX3_of_302 rfl (congrArg (fun z9 => (z9, σ)) (Option.some.inj h)) hP
                              · have h := it_f h c_33
                                by_cases c_34 : a2 = (15 : Int32)
                                · have h := it_t h c_34
                                  refine lv_tableIn (tgt := 300) hx hb dX3_of_1 (by rw [c_34]; decide) (by rw [c_34]; decide) (by rw [c_34]; rfl) (by decide) ?_
                                  refine lv_ldc hx hb hown (hts _ q1935) dX3_of_300 ?_
                                  exact hret _ _ _ _ _ _ dX3_of_302 rfl (congrArg (fun z9 => (z9, σ)) (Option.some.inj h)) hP
                                · have h := it_f h c_34
                                  by_cases c_35 : a2 = (16 : Int32)
                                  · have h := it_t h c_35
                                    refine lv_tableIn (tgt := 300) hx hb dX3_of_1 (by rw [c_35]; decide) (by rw [c_35]; decide) (by rw [c_35]; rfl) (by decide) ?_
                                    refine lv_ldc hx hb hown (hts _ q1935) dX3_of_300 ?_
                                    exact hret _ _ _ _ _ _ dX3_of_302 rfl (congrArg (fun z9 => (z9, σ)) (Option.some.inj h)) hP
                                  · have h := it_f h c_35
                                    by_cases c_36 : a2 = (17 : Int32)
                                    · have h := it_t h c_36
                                      refine lv_tableIn (tgt := 300) hx hb dX3_of_1 (by rw [c_36]; decide) (by rw [c_36]; decide) (by rw [c_36]; rfl) (by decide) ?_
                                      refine lv_ldc hx hb hown (hts _ q1935) dX3_of_300 ?_
                                      exact hret _ _ _ _ _ _ dX3_of_302 rfl (congrArg (fun z9 => (z9, σ)) (Option.some.inj h)) hP
                                    · have h := it_f h c_36
                                      by_cases c_37 : a2 = (18 : Int32)
                                      · have h := it_t h c_37
                                        refine lv_tableIn (tgt := 300) hx hb dX3_of_1 (by rw [c_37]; decide) (by rw [c_37]; decide) (by rw [c_37]; rfl) (by decide) ?_
                                        refine lv_ldc hx hb hown (hts _ q1935) dX3_of_300 ?_
                                        exact hret _ _ _ _ _ _ dX3_of_302 rfl (congrArg (fun z9 => (z9, σ)) (Option.some.inj h)) hP
                                      · have h := it_f h c_37
                                        by_cases c_38 : a2 = (19 : Int32)
                                        · have h := it_t h c_38
                                          refine lv_tableIn (tgt := 300) hx hb dX3_of_1 (by rw [c_38]; decide) (by rw [c_38]; decide) (by rw [c_38]; rfl) (by decide) ?_
                                          refine lv_ldc hx hb hown (hts _ q1935) dX3_of_300 ?_
                                          exact hret _ _ _ _ _ _ dX3_of_302 rfl (congrArg (fun z9 => (z9, σ)) (Option.some.inj h)) hP
                                        · have h := it_f h c_38
                                          by_cases c_39 : a2 = (20 : Int32)
                                          · have h := it_t h c_39
                                            refine lv_tableIn (tgt := 240) hx hb dX3_of_1 (by rw [c_39]; decide) (by rw [c_39]; decide) (by rw [c_39]; rfl) (by decide) ?_
                                            refine lv_aload_n hx hb dX3_of_240 rfl (lv_at hl 0 rfl) ?_
                                            refine lv_iload_n hx hb dX3_of_241 rfl (lv_at hl 1 rfl) ?_
                                            obtain ⟨r_41, e_40, h⟩ := bo_ex h
                                            refine r_calli (r_runV (rest := []) X hP 0 tw_c0 lk_3 (mt_X3_isCard l G σ a1 e_40) (cwV 1 hts (lw_V q1944 q1946 qs54 q113 q1947) rfl rfl rfl ⟨rfl, cdX3_isCard⟩ ⟨Nat.le_of_ble_eq_true rfl, Nat.le_of_ble_eq_true rfl⟩) rfl hl.1 rfl (Nat.le_of_ble_eq_true rfl) dX3_of_242 ⟨Nat.le_refl _, Nat.le_refl _⟩) hP (fun H locs hP => ?_)
                                            refine lv_if_eq (tgt := 257) hx hb dX3_of_245 (by decide) (fun c_42 => ?_) (fun c_42 => ?_)
                                            · have h := it_t h c_42
                                              refine lv_ldc hx hb hown (hts _ q1935) dX3_of_257 ?_
                                              exact hret _ _ _ _ _ _ dX3_of_259 rfl (congrArg (fun z9 => (z9, σ)) (Option.some.inj h)) hP
                                            · have h := it_f h c_42
                                              refine lv_aload_n hx hb dX3_of_248 rfl (lv_at hl 0 rfl) ?_
                                              refine r_geta X hP 0 tw_c0 lk_3 10 (Nat.le_of_ble_eq_true rfl) q1648 tw_f10 dX3_of_249 ?_
                                              refine lv_iload_n hx hb dX3_of_252 rfl (lv_at hl 1 rfl) ?_
                                              refine r_iald X hP 6 tw_c6 (ck_in h) dX3_of_253 ?_
                                              have h := ck_k h
                                              refine lv_goto (tgt := 259) hx hb dX3_of_254 (by decide) ?_
                                              exact hret _ _ _ _ _ _ dX3_of_259 rfl (congrArg (fun z9 => (z9, σ)) (Option.some.inj h)) hP
                                          · have h := it_f h c_39
                                            by_cases c_43 : a2 = (21 : Int32)
                                            · have h := it_t h c_43
                                              refine lv_tableIn (tgt := 260) hx hb dX3_of_1 (by rw [c_43]; decide) (by rw [c_43]; decide) (by rw [c_43]; rfl) (by decide) ?_
                                              refine lv_aload_n hx hb dX3_of_260 rfl (lv_at hl 0 rfl) ?_
                                              refine lv_iload_n hx hb dX3_of_261 rfl (lv_at hl 1 rfl) ?_
                                              obtain ⟨r_45, e_44, h⟩ := bo_ex h
                                              refine r_calli (r_runV (rest := []) X hP 0 tw_c0 lk_3 (mt_X3_isCard l G σ a1 e_44) (cwV 1 hts (lw_V q1944 q1946 qs54 q113 q1947) rfl rfl rfl ⟨rfl, cdX3_isCard⟩ ⟨Nat.le_of_ble_eq_true rfl, Nat.le_of_ble_eq_true rfl⟩) rfl hl.1 rfl (Nat.le_of_ble_eq_true rfl) dX3_of_262 ⟨Nat.le_refl _, Nat.le_refl _⟩) hP (fun H locs hP => ?_)
                                              refine lv_if_eq (tgt := 277) hx hb dX3_of_265 (by decide) (fun c_46 => ?_) (fun c_46 => ?_)
                                              · have h := it_t h c_46
                                                refine lv_ldc hx hb hown (hts _ q1935) dX3_of_277 ?_
                                                exact hret _ _ _ _ _ _ dX3_of_279 rfl (congrArg (fun z9 => (z9, σ)) (Option.some.inj h)) hP
                                              · have h := it_f h c_46
                                                refine lv_aload_n hx hb dX3_of_268 rfl (lv_at hl 0 rfl) ?_
                                                refine r_geta X hP 0 tw_c0 lk_3 11 (Nat.le_of_ble_eq_true rfl) q1649 tw_f11 dX3_of_269 ?_
                                                refine lv_iload_n hx hb dX3_of_272 rfl (lv_at hl 1 rfl) ?_
                                                refine r_iald X hP 7 tw_c7 (ck_in h) dX3_of_273 ?_
                                                have h := ck_k h
                                                refine lv_goto (tgt := 279) hx hb dX3_of_274 (by decide) ?_
                                                exact hret _ _ _ _ _ _ dX3_of_279 rfl (congrArg (fun z9 => (z9, σ)) (Option.some.inj h)) hP
                                            · have h := it_f h c_43
                                              by_cases c_47 : a2 = (22 : Int32)
                                              · have h := it_t h c_47
                                                refine lv_tableIn (tgt := 280) hx hb dX3_of_1 (by rw [c_47]; decide) (by rw [c_47]; decide) (by rw [c_47]; rfl) (by decide) ?_
                                                refine lv_aload_n hx hb dX3_of_280 rfl (lv_at hl 0 rfl) ?_
                                                refine lv_iload_n hx hb dX3_of_281 rfl (lv_at hl 1 rfl) ?_
                                                obtain ⟨r_49, e_48, h⟩ := bo_ex h
                                                refine r_calli (r_runV (rest := []) X hP 0 tw_c0 lk_3 (mt_X3_isCard l G σ a1 e_48) (cwV 1 hts (lw_V q1944 q1946 qs54 q113 q1947) rfl rfl rfl ⟨rfl, cdX3_isCard⟩ ⟨Nat.le_of_ble_eq_true rfl, Nat.le_of_ble_eq_true rfl⟩) rfl hl.1 rfl (Nat.le_of_ble_eq_true rfl) dX3_of_282 ⟨Nat.le_refl _, Nat.le_refl _⟩) hP (fun H locs hP => ?_)
                                                refine lv_if_eq (tgt := 297) hx hb dX3_of_285 (by decide) (fun c_50 => ?_) (fun c_50 => ?_)
                                                · have h := it_t h c_50
                                                  refine lv_ldc hx hb hown (hts _ q1935) dX3_of_297 ?_
                                                  exact hret _ _ _ _ _ _ dX3_of_299 rfl (congrArg (fun z9 => (z9, σ)) (Option.some.inj h)) hP
                                                · have h := it_f h c_50
                                                  refine lv_aload_n hx hb dX3_of_288 rfl (lv_at hl 0 rfl) ?_
                                                  refine r_geta X hP 0 tw_c0 lk_3 12 (Nat.le_of_ble_eq_true rfl) q1650 tw_f12 dX3_of_289 ?_
                                                  refine lv_iload_n hx hb dX3_of_292 rfl (lv_at hl 1 rfl) ?_
                                                  refine r_iald X hP 8 tw_c8 (ck_in h) dX3_of_293 ?_
                                                  have h := ck_k h
                                                  refine lv_goto (tgt := 299) hx hb dX3_of_294 (by decide) ?_
                                                  exact hret _ _ _ _ _ _ dX3_of_299 rfl (congrArg (fun z9 => (z9, σ)) (Option.some.inj h)) hP
                                              · have h := it_f h c_47
                                                refine lv_tableOut (tgt := 300) hx hb dX3_of_1 (by have n0 := lv_neT c_1 (a := 0) (by decide); have n1 := lv_neT c_5 (a := 1) (by decide); have n2 := lv_neT c_9 (a := 2) (by decide); have n3 := lv_neT c_13 (a := 3) (by decide); have n4 := lv_neT c_17 (a := 4) (by decide); have n5 := lv_neT c_18 (a := 5) (by decide); have n6 := lv_neT c_19 (a := 6) (by decide); have n7 := lv_neT c_20 (a := 7) (by decide); have n8 := lv_neT c_21 (a := 8) (by decide); have n9 := lv_neT c_22 (a := 9) (by decide); have n10 := lv_neT c_23 (a := 10) (by decide); have n11 := lv_neT c_27 (a := 11) (by decide); have n12 := lv_neT c_31 (a := 12) (by decide); have n13 := lv_neT c_32 (a := 13) (by decide); have n14 := lv_neT c_33 (a := 14) (by decide); have n15 := lv_neT c_34 (a := 15) (by decide); have n16 := lv_neT c_35 (a := 16) (by decide); have n17 := lv_neT c_36 (a := 17) (by decide); have n18 := lv_neT c_37 (a := 18) (by decide); have n19 := lv_neT c_38 (a := 19) (by decide); have n20 := lv_neT c_39 (a := 20) (by decide); have n21 := lv_neT c_43 (a := 21) (by decide); have n22 := lv_neT c_47 (a := 22) (by decide); omega) (by decide) ?_
                                                refine lv_ldc hx hb hown (hts _ q1935) dX3_of_300 ?_
                                                exact hret _ _ _ _ _ _ dX3_of_302 rfl (congrArg (fun z9 => (z9, σ)) (Option.some.inj h)) hP
def tw_feed (σ : ST) (a1 : Int32) : Option (Int32 × ST) :=
  bo (tw_within ((a1).toInt64) (0 : Int64) (255 : Int64)) (fun (r_2 : Int32) => (if r_2 = 0 then some ((-1 : Int32), σ) else (if (gI σ 0 17) = (120 : Int32) then some ((-3 : Int32), σ) else ck (gI σ 0 17) 120 (st_ (aI σ 0 16 (gI σ 0 17) a1) (fun (σ_5 : ST) => st_ (pI σ_5 0 17 ((gI σ_5 0 17) + (1 : Int32))) (fun (σ_7 : ST) => some ((gI σ_7 0 17), σ_7)))))))
abbrev rm_X3_feed : Room := rmf 1 25
set_option maxHeartbeats 4000000 in
set_option maxRecDepth 100000 in
theorem mt_X3_feed (l : Launch) (G : GT) (σ : ST) (a1 : Int32) {r : Int32} {u : ST} (h : tw_feed σ a1 = some (r, u)) : CI l tw_ft G yX3_feed (ws_ yX3_feed cX3_feed 2 (some .int)) rm_X3_feed 0 0 [.ref (G.2.2.1 0), .int a1] σ (r, u) := by
  refine m_enterI (by decide) rfl (lv := [(0, .ref (G.2.2.1 0)), (1, .int a1)]) rfl ?_
  intro p e s m args below meth c H locs ls Q X hret hP hl
  have hx := X.1.1
  have hb := X.1.2.1
  have hown := X.1.2.2.2.1
  have hts := X.1.2.2.2.2
  unfold tw_feed at h
  refine lv_iload_n hx hb dX3_feed_0 rfl (lv_at hl 1 rfl) ?_
  refine lv_i2l hx hb dX3_feed_1 rfl ?_
  refine lv_lconst (v := (0 : Int64)) hx hb dX3_feed_2 (by decide) ?_
  refine lv_ldc2 hx hb hown (hts _ q1952) dX3_feed_3 ?_
  obtain ⟨r_2, e_1, h⟩ := bo_ex h
  refine r_calli (r_runS (rest := []) X hP (mt_X3_within l G σ ((a1).toInt64) (0 : Int64) (255 : Int64) e_1) (va_cwS 3 hts (lw_S q1880 q1881 q113 q1882) rfl rfl rfl cdX3_within ⟨Nat.le_of_ble_eq_true rfl, Nat.le_of_ble_eq_true rfl⟩) rfl hl.1 rfl (Nat.le_of_ble_eq_true rfl) dX3_feed_6 ⟨Nat.le_refl _, Nat.le_refl _⟩) hP (fun H locs hP => ?_)
  refine lv_if_ne (tgt := 14) hx hb dX3_feed_9 (by decide) (fun c_3 => ?_) (fun c_3 => ?_)
  · have h := it_f h c_3
    refine lv_aload_n hx hb dX3_feed_14 rfl (lv_at hl 0 rfl) ?_
    refine r_geti X hP 0 tw_c0 lk_3 17 (Nat.le_of_ble_eq_true rfl) q1655 tw_f17 dX3_feed_15 ?_
    refine lv_bipush (v := (120 : Int32)) hx hb dX3_feed_18 (by decide) ?_
    refine lv_icmp_ne (tgt := 26) hx hb dX3_feed_20 (by decide) (fun c_4 => ?_) (fun c_4 => ?_)
    · have h := it_f h c_4
      refine lv_aload_n hx hb dX3_feed_26 rfl (lv_at hl 0 rfl) ?_
      refine r_geta X hP 0 tw_c0 lk_3 16 (Nat.le_of_ble_eq_true rfl) q1654 tw_f16 dX3_feed_27 ?_
      refine lv_aload_n hx hb dX3_feed_30 rfl (lv_at hl 0 rfl) ?_
      refine r_geti X hP 0 tw_c0 lk_3 17 (Nat.le_of_ble_eq_true rfl) q1655 tw_f17 dX3_feed_31 ?_
      refine lv_iload_n hx hb dX3_feed_34 rfl (lv_at hl 1 rfl) ?_
      refine r_iast X tw_w hP 9 tw_c9 (ck_in h) dX3_feed_35 (fun σ_5 H locs e_6 hP => ?_)
      have h := st_k (ck_k h) e_6
      refine lv_aload_n hx hb dX3_feed_36 rfl (lv_at hl 0 rfl) ?_
      refine lv_dup hx hb dX3_feed_37 rfl ?_
      refine r_geti X hP 0 tw_c0 lk_3 17 (Nat.le_of_ble_eq_true rfl) q1655 tw_f17 dX3_feed_38 ?_
      refine lv_iconst (v := (1 : Int32)) hx hb dX3_feed_41 (by decide) ?_
      refine lv_iadd hx hb dX3_feed_42 ?_
      refine r_puti X tw_w hP 0 tw_c0 lk_3 17 (Nat.le_of_ble_eq_true rfl) q1655 tw_f17 rfl (tyX3_ok 17 (by decide)) rfl rfl dX3_feed_43 (fun σ_7 H locs e_8 hP => ?_)
      have h := st_k h e_8
      refine lv_aload_n hx hb dX3_feed_46 rfl (lv_at hl 0 rfl) ?_
      refine r_geti X hP 0 tw_c0 lk_3 17 (Nat.le_of_ble_eq_true rfl) q1655 tw_f17 dX3_feed_47 ?_
      exact hret _ _ _ _ _ _ dX3_feed_50 rfl (Option.some.inj h) hP
    · have h := it_t h c_4
      refine lv_bipush (v := (-3 : Int32)) hx hb dX3_feed_23 (by decide) ?_
      exact hret _ _ _ _ _ _ dX3_feed_25 rfl (Option.some.inj h) hP
  · have h := it_t h c_3
    refine lv_iconst (v := (-1 : Int32)) hx hb dX3_feed_12 (by decide) ?_
    exact hret _ _ _ _ _ _ dX3_feed_13 rfl (Option.some.inj h) hP
def tw_workOut_B33 (rc33 : Int32 → Int32 → Int32 → ST → Option (Int32 × ST)) (w3 : Int32) (w4 : Int32) (w5 : Int32) (σ : ST) : Option (Int32 × ST) :=
  (if w5 = 0 then some (w4, σ) else bo2 (tw_ei σ) (fun (r_13 : Int32) (σ_14 : ST) => bo2 (tw_takes σ_14 (63 : Int32)) (fun (r_16 : Int32) (σ_17 : ST) => bo3 (if r_16 = 0 then some (r_13, (1 : Int32), σ_17) else bo (if r_13 = 0 then some ((0 : Int32)) else some ((1 : Int32))) (fun (x_34 : Int32) => bo2 (tw_ei σ_17) (fun (r_38 : Int32) (σ_39 : ST) => some (r_38, x_34, σ_39)))) (fun (y_18 : Int32) (y_19 : Int32) (σ_20 : ST) => bo2 (if 0 ≤ (gI σ_20 0 23) then some (w3, w4) else (if y_19 = 0 then some (w3, w4) else (if w3 = 0 then some ((1 : Int32), y_18) else some (w3, w4)))) (fun (y_23 : Int32) (y_24 : Int32) => bo2 (tw_takes σ_20 (59 : Int32)) (fun (r_28 : Int32) (σ_29 : ST) => (rc33 y_23 y_24 r_28 σ_29)))))))
def tw_workOut (σ : ST) (a1 : Int32) (a2 : Int32) : Option (Int32 × ST) :=
  st_ (pI σ 0 20 a1) (fun (σ_1 : ST) => st_ (pI σ_1 0 21 (0 : Int32)) (fun (σ_3 : ST) => st_ (pI σ_3 0 22 a2) (fun (σ_5 : ST) => st_ (pI σ_5 0 23 (-1 : Int32)) (fun (σ_7 : ST) => st_ (pI σ_7 0 24 (0 : Int32)) (fun (σ_9 : ST) => bo2 (wl4 (tw_workOut_B33 ) FU (0 : Int32) (0 : Int32) (1 : Int32) σ_9) (fun (o_42 : Int32) (σ_43 : ST) => (if 0 ≤ (gI σ_43 0 23) then some (o_42, σ_43) else (if (gI σ_43 0 22) ≤ (gI σ_43 0 21) then some (o_42, σ_43) else bo2 (tw_wrong σ_43) (fun (r_49 : Int32) (σ_50 : ST) => some (r_49, σ_50))))))))))
abbrev rm_X3_workOut : Room := rmf 54 1233
set_option maxHeartbeats 4000000 in
set_option maxRecDepth 100000 in
theorem mt_X3_workOut (l : Launch) (G : GT) (σ : ST) (a1 : Int32) (a2 : Int32) {r : Int32} {u : ST} (h : tw_workOut σ a1 a2 = some (r, u)) : CI l tw_ft G yX3_workOut (ws_ yX3_workOut cX3_workOut 8 (some .int)) rm_X3_workOut 0 0 [.ref (G.2.2.1 0), .int a1, .int a2] σ (r, u) := by
  refine m_enterI (by decide) rfl (lv := [(0, .ref (G.2.2.1 0)), (1, .int a1), (2, .int a2)]) rfl ?_
  intro p e s m args below meth c H locs ls Q X hret hP hl
  have hx := X.1.1
  have hb := X.1.2.1
  have hown := X.1.2.2.2.1
  have hts := X.1.2.2.2.2
  unfold tw_workOut at h
  refine lv_aload_n hx hb dX3_workOut_0 rfl (lv_at hl 0 rfl) ?_
  refine lv_iload_n hx hb dX3_workOut_1 rfl (lv_at hl 1 rfl) ?_
  refine r_puti X tw_w hP 0 tw_c0 lk_3 20 (Nat.le_of_ble_eq_true rfl) q1658 tw_f20 rfl (tyX3_ok 20 (by decide)) rfl rfl dX3_workOut_2 (fun σ_1 H locs e_2 hP => ?_)
  have h := st_k h e_2
  refine lv_aload_n hx hb dX3_workOut_5 rfl (lv_at hl 0 rfl) ?_
  refine lv_iconst (v := (0 : Int32)) hx hb dX3_workOut_6 (by decide) ?_
  refine r_puti X tw_w hP 0 tw_c0 lk_3 21 (Nat.le_of_ble_eq_true rfl) q1659 tw_f21 rfl (tyX3_ok 21 (by decide)) rfl rfl dX3_workOut_7 (fun σ_3 H locs e_4 hP => ?_)
  have h := st_k h e_4
  refine lv_aload_n hx hb dX3_workOut_10 rfl (lv_at hl 0 rfl) ?_
  refine lv_iload_n hx hb dX3_workOut_11 rfl (lv_at hl 2 rfl) ?_
  refine r_puti X tw_w hP 0 tw_c0 lk_3 22 (Nat.le_of_ble_eq_true rfl) q1660 tw_f22 rfl (tyX3_ok 22 (by decide)) rfl rfl dX3_workOut_12 (fun σ_5 H locs e_6 hP => ?_)
  have h := st_k h e_6
  refine lv_aload_n hx hb dX3_workOut_15 rfl (lv_at hl 0 rfl) ?_
  refine lv_iconst (v := (-1 : Int32)) hx hb dX3_workOut_16 (by decide) ?_
  refine r_puti X tw_w hP 0 tw_c0 lk_3 23 (Nat.le_of_ble_eq_true rfl) q1661 tw_f23 rfl (tyX3_ok 23 (by decide)) rfl rfl dX3_workOut_17 (fun σ_7 H locs e_8 hP => ?_)
  have h := st_k h e_8
  refine lv_aload_n hx hb dX3_workOut_20 rfl (lv_at hl 0 rfl) ?_
  refine lv_iconst (v := (0 : Int32)) hx hb dX3_workOut_21 (by decide) ?_
  refine r_puti X tw_w hP 0 tw_c0 lk_3 24 (Nat.le_of_ble_eq_true rfl) q1662 tw_f24 rfl (tyX3_ok 24 (by decide)) rfl rfl dX3_workOut_22 (fun σ_9 H locs e_10 hP => ?_)
  have h := st_k h e_10
  refine lv_iconst (v := (0 : Int32)) hx hb dX3_workOut_25 (by decide) ?_
  refine lv_istore_n (lv' := [(3, .int (0 : Int32)), (0, .ref (G.2.2.1 0)), (1, .int a1), (2, .int a2)]) hx hb dX3_workOut_26 rfl hl (by decide) rfl (fun ls hl => ?_)
  refine lv_iconst (v := (0 : Int32)) hx hb dX3_workOut_27 (by decide) ?_
  refine lv_istore (lv' := [(4, .int (0 : Int32)), (3, .int (0 : Int32)), (0, .ref (G.2.2.1 0)), (1, .int a1), (2, .int a2)]) hx hb dX3_workOut_28 hl (by decide) rfl (fun ls hl => ?_)
  refine lv_iconst (v := (1 : Int32)) hx hb dX3_workOut_30 (by decide) ?_
  refine lv_istore (lv' := [(5, .int (1 : Int32)), (4, .int (0 : Int32)), (3, .int (0 : Int32)), (0, .ref (G.2.2.1 0)), (1, .int a1), (2, .int a2)]) hx hb dX3_workOut_31 hl (by decide) rfl (fun ls hl => ?_)
  obtain ⟨o_42, σ_43, h_44, h⟩ := bo2_ex h
  have hE_45 : ∀ (H : Heap) (locs : List Loc) (ls : Array Slot), PS tw_ft G s σ_43 H locs → lv_has ls 8 [(0, .ref (G.2.2.1 0)), (4, .int o_42)] → W p l e rm_X3_workOut s m args below meth c H locs 0 0 Q (F0 m 107 ls []) := by
    intro H locs ls hP hl
    refine lv_aload_n hx hb dX3_workOut_107 rfl (lv_at hl 0 rfl) ?_
    refine r_geti X hP 0 tw_c0 lk_3 23 (Nat.le_of_ble_eq_true rfl) q1661 tw_f23 dX3_workOut_108 ?_
    refine lv_if_ge (tgt := 130) hx hb dX3_workOut_111 (by decide) (fun c_46 => ?_) (fun c_46 => ?_)
    · have h := it_t h c_46
      refine lv_iload hx hb dX3_workOut_130 (lv_at hl 1 rfl) ?_
      exact hret _ _ _ _ _ _ dX3_workOut_132 rfl (Option.some.inj h) hP
    · have h := it_f h c_46
      refine lv_aload_n hx hb dX3_workOut_114 rfl (lv_at hl 0 rfl) ?_
      refine r_geti X hP 0 tw_c0 lk_3 21 (Nat.le_of_ble_eq_true rfl) q1659 tw_f21 dX3_workOut_115 ?_
      refine lv_aload_n hx hb dX3_workOut_118 rfl (lv_at hl 0 rfl) ?_
      refine r_geti X hP 0 tw_c0 lk_3 22 (Nat.le_of_ble_eq_true rfl) q1660 tw_f22 dX3_workOut_119 ?_
      refine lv_icmp_ge (tgt := 130) hx hb dX3_workOut_122 (by decide) (fun c_47 => ?_) (fun c_47 => ?_)
      · have h := it_t h c_47
        refine lv_iload hx hb dX3_workOut_130 (lv_at hl 1 rfl) ?_
        exact hret _ _ _ _ _ _ dX3_workOut_132 rfl (Option.some.inj h) hP
      · have h := it_f h c_47
        refine lv_aload_n hx hb dX3_workOut_125 rfl (lv_at hl 0 rfl) ?_
        obtain ⟨r_49, σ_50, e_48, h⟩ := bo2_ex h
        refine r_calli (r_runV (rest := []) X hP 0 tw_c0 lk_3 (mt_X3_wrong l G σ_43 e_48) (cwV 0 hts (lw_V q1989 q1991 qs63 q113 q1992) rfl rfl rfl ⟨rfl, cdX3_wrong⟩ ⟨Nat.le_of_ble_eq_true rfl, Nat.le_of_ble_eq_true rfl⟩) rfl hl.1 rfl (Nat.le_of_ble_eq_true rfl) dX3_workOut_126 ⟨Nat.le_refl _, Nat.le_refl _⟩) hP (fun H locs hP => ?_)
        exact hret _ _ _ _ _ _ dX3_workOut_129 rfl (Option.some.inj h) hP
  have hL_41 : ∀ (n : Nat) (w_51 : Int32) (w_52 : Int32) (w_53 : Int32) (σ_54 : ST) (H : Heap) (locs : List Loc) (ls : Array Slot), wl4 (tw_workOut_B33 ) n w_51 w_52 w_53 σ_54 = some (o_42, σ_43) → PS tw_ft G s σ_54 H locs → lv_has ls 8 [(0, .ref (G.2.2.1 0)), (3, .int w_51), (4, .int w_52), (5, .int w_53)] → W p l e rm_X3_workOut s m args below meth c H locs 0 0 Q (F0 m 33 ls []) := by
    intro n
    induction n with
    | zero => intro w_51 w_52 w_53 σ_54 H locs ls h_55; cases h_55
    | succ n ih =>
      intro w_51 w_52 w_53 σ_54 H locs ls h_55 hP hl
      have h_55 : tw_workOut_B33  (wl4 (tw_workOut_B33 ) n) w_51 w_52 w_53 σ_54 = some _ := h_55
      generalize wl4 (tw_workOut_B33 ) n = rc_56 at h_55 ih
      unfold tw_workOut_B33 at h_55
      refine lv_iload hx hb dX3_workOut_33 (lv_at hl 3 rfl) ?_
      refine lv_if_eq (tgt := 107) hx hb dX3_workOut_35 (by decide) (fun c_57 => ?_) (fun c_57 => ?_)
      · have h_55 := it_t h_55 c_57
        obtain ⟨rfl, rfl⟩ := so2 h_55
        exact hE_45 _ _ _ hP (lv_sub hl [0, 2] rfl)
      · have h_55 := it_f h_55 c_57
        refine lv_aload_n hx hb dX3_workOut_38 rfl (lv_at hl 0 rfl) ?_
        obtain ⟨r_59, σ_60, e_58, h_55⟩ := bo2_ex h_55
        refine r_calli (r_runV (rest := []) X hP 0 tw_c0 lk_3 (mt_ei l G σ_54 e_58) (cwV 0 hts (lw_V q1961 q1963 qs56 q113 q1964) rfl rfl rfl ⟨rfl, cdX3_either⟩ ⟨Nat.le_of_ble_eq_true rfl, Nat.le_of_ble_eq_true rfl⟩) rfl hl.1 rfl (Nat.le_of_ble_eq_true rfl) dX3_workOut_39 ⟨Nat.le_refl _, Nat.le_refl _⟩) hP (fun H locs hP => ?_)
        refine lv_istore (lv' := [(6, .int r_59), (0, .ref (G.2.2.1 0)), (3, .int w_51), (4, .int w_52), (5, .int w_53)]) hx hb dX3_workOut_42 hl (by decide) rfl (fun ls hl => ?_)
        refine lv_iconst (v := (1 : Int32)) hx hb dX3_workOut_44 (by decide) ?_
        refine lv_istore (lv' := [(7, .int (1 : Int32)), (6, .int r_59), (0, .ref (G.2.2.1 0)), (3, .int w_51), (4, .int w_52), (5, .int w_53)]) hx hb dX3_workOut_45 hl (by decide) rfl (fun ls hl => ?_)
        refine lv_aload_n hx hb dX3_workOut_47 rfl (lv_at hl 2 rfl) ?_
        refine lv_bipush (v := (63 : Int32)) hx hb dX3_workOut_48 (by decide) ?_
        obtain ⟨r_62, σ_63, e_61, h_55⟩ := bo2_ex h_55
        refine r_calli (r_runV (rest := []) X hP 0 tw_c0 lk_3 (mt_X3_takes l G σ_60 (63 : Int32) e_61) (cwV 1 hts (lw_V q1993 q1995 qs64 q113 q1996) rfl rfl rfl ⟨rfl, cdX3_takes⟩ ⟨Nat.le_of_ble_eq_true rfl, Nat.le_of_ble_eq_true rfl⟩) rfl hl.1 rfl (Nat.le_of_ble_eq_true rfl) dX3_workOut_50 ⟨Nat.le_refl _, Nat.le_refl _⟩) hP (fun H locs hP => ?_)
        obtain ⟨y_64, y_65, σ_66, h_67, h_55⟩ := bo3_ex h_55
        have hJ_68 : ∀ (H : Heap) (locs : List Loc) (ls : Array Slot), PS tw_ft G s σ_66 H locs → lv_has ls 8 [(0, .ref (G.2.2.1 0)), (3, .int w_51), (4, .int w_52), (6, .int y_64), (7, .int y_65)] → W p l e rm_X3_workOut s m args below meth c H locs 0 0 Q (F0 m 74 ls []) := by
          intro H locs ls hP hl
          refine lv_aload_n hx hb dX3_workOut_74 rfl (lv_at hl 0 rfl) ?_
          refine r_geti X hP 0 tw_c0 lk_3 23 (Nat.le_of_ble_eq_true rfl) q1661 tw_f23 dX3_workOut_75 ?_
          obtain ⟨y_69, y_70, h_71, h_55⟩ := bo2_ex h_55
          have hJ_72 : ∀ (H : Heap) (locs : List Loc) (ls : Array Slot), PS tw_ft G s σ_66 H locs → lv_has ls 8 [(0, .ref (G.2.2.1 0)), (3, .int y_69), (4, .int y_70)] → W p l e rm_X3_workOut s m args below meth c H locs 0 0 Q (F0 m 96 ls []) := by
            intro H locs ls hP hl
            refine lv_aload_n hx hb dX3_workOut_96 rfl (lv_at hl 0 rfl) ?_
            refine lv_bipush (v := (59 : Int32)) hx hb dX3_workOut_97 (by decide) ?_
            obtain ⟨r_74, σ_75, e_73, h_55⟩ := bo2_ex h_55
            refine r_calli (r_runV (rest := []) X hP 0 tw_c0 lk_3 (mt_X3_takes l G σ_66 (59 : Int32) e_73) (cwV 1 hts (lw_V q1993 q1995 qs64 q113 q1996) rfl rfl rfl ⟨rfl, cdX3_takes⟩ ⟨Nat.le_of_ble_eq_true rfl, Nat.le_of_ble_eq_true rfl⟩) rfl hl.1 rfl (Nat.le_of_ble_eq_true rfl) dX3_workOut_99 ⟨Nat.le_refl _, Nat.le_refl _⟩) hP (fun H locs hP => ?_)
            refine lv_istore (lv' := [(5, .int r_74), (0, .ref (G.2.2.1 0)), (3, .int y_69), (4, .int y_70)]) hx hb dX3_workOut_102 hl (by decide) rfl (fun ls hl => ?_)
            refine lv_goto (tgt := 33) hx hb dX3_workOut_104 (by decide) ?_
            exact ih _ _ _ _ _ _ _ h_55 hP (lv_sub hl [1, 2, 3, 0] rfl)
          refine lv_if_ge (tgt := 96) hx hb dX3_workOut_78 (by decide) (fun c_76 => ?_) (fun c_76 => ?_)
          · have h_71 := it_t h_71 c_76
            obtain ⟨rfl, rfl⟩ := so2 h_71
            exact hJ_72 _ _ _ hP (lv_sub hl [0, 1, 2] rfl)
          · have h_71 := it_f h_71 c_76
            refine lv_iload hx hb dX3_workOut_81 (lv_at hl 4 rfl) ?_
            refine lv_if_eq (tgt := 96) hx hb dX3_workOut_83 (by decide) (fun c_77 => ?_) (fun c_77 => ?_)
            · have h_71 := it_t h_71 c_77
              obtain ⟨rfl, rfl⟩ := so2 h_71
              exact hJ_72 _ _ _ hP (lv_sub hl [0, 1, 2] rfl)
            · have h_71 := it_f h_71 c_77
              refine lv_iload_n hx hb dX3_workOut_86 rfl (lv_at hl 1 rfl) ?_
              refine lv_if_ne (tgt := 96) hx hb dX3_workOut_87 (by decide) (fun c_78 => ?_) (fun c_78 => ?_)
              · have h_71 := it_f h_71 c_78
                obtain ⟨rfl, rfl⟩ := so2 h_71
                exact hJ_72 _ _ _ hP (lv_sub hl [0, 1, 2] rfl)
              · have h_71 := it_t h_71 c_78
                refine lv_iconst (v := (1 : Int32)) hx hb dX3_workOut_90 (by decide) ?_
                refine lv_istore_n (lv' := [(3, .int (1 : Int32)), (0, .ref (G.2.2.1 0)), (4, .int w_52), (6, .int y_64), (7, .int y_65)]) hx hb dX3_workOut_91 rfl hl (by decide) rfl (fun ls hl => ?_)
                refine lv_iload hx hb dX3_workOut_92 (lv_at hl 3 rfl) ?_
                refine lv_istore (lv' := [(4, .int y_64), (3, .int (1 : Int32)), (0, .ref (G.2.2.1 0)), (6, .int y_64), (7, .int y_65)]) hx hb dX3_workOut_94 hl (by decide) rfl (fun ls hl => ?_)
                obtain ⟨rfl, rfl⟩ := so2 h_71
                exact hJ_72 _ _ _ hP (lv_sub hl [2, 1, 0] rfl)
        refine lv_if_eq (tgt := 74) hx hb dX3_workOut_53 (by decide) (fun c_79 => ?_) (fun c_79 => ?_)
        · have h_67 := it_t h_67 c_79
          obtain ⟨rfl, rfl, rfl⟩ := so3 h_67
          exact hJ_68 _ _ _ hP (lv_sub hl [2, 3, 4, 1, 0] rfl)
        · have h_67 := it_f h_67 c_79
          refine lv_iload hx hb dX3_workOut_56 (lv_at hl 1 rfl) ?_
          obtain ⟨x_80, h_81, h_67⟩ := bo_ex h_67
          have hJ_82 : ∀ (H : Heap) (locs : List Loc) (ls : Array Slot), PS tw_ft G s σ_63 H locs → lv_has ls 8 [(0, .ref (G.2.2.1 0)), (3, .int w_51), (4, .int w_52)] → W p l e rm_X3_workOut s m args below meth c H locs 0 0 Q (F0 m 66 ls [.int x_80]) := by
            intro H locs ls hP hl
            refine lv_istore (lv' := [(7, .int x_80), (0, .ref (G.2.2.1 0)), (3, .int w_51), (4, .int w_52)]) hx hb dX3_workOut_66 hl (by decide) rfl (fun ls hl => ?_)
            refine lv_aload_n hx hb dX3_workOut_68 rfl (lv_at hl 1 rfl) ?_
            obtain ⟨r_84, σ_85, e_83, h_67⟩ := bo2_ex h_67
            refine r_calli (r_runV (rest := []) X hP 0 tw_c0 lk_3 (mt_ei l G σ_63 e_83) (cwV 0 hts (lw_V q1961 q1963 qs56 q113 q1964) rfl rfl rfl ⟨rfl, cdX3_either⟩ ⟨Nat.le_of_ble_eq_true rfl, Nat.le_of_ble_eq_true rfl⟩) rfl hl.1 rfl (Nat.le_of_ble_eq_true rfl) dX3_workOut_69 ⟨Nat.le_refl _, Nat.le_refl _⟩) hP (fun H locs hP => ?_)
            refine lv_istore (lv' := [(6, .int r_84), (7, .int x_80), (0, .ref (G.2.2.1 0)), (3, .int w_51), (4, .int w_52)]) hx hb dX3_workOut_72 hl (by decide) rfl (fun ls hl => ?_)
            obtain ⟨rfl, rfl, rfl⟩ := so3 h_67
            exact hJ_68 _ _ _ hP (lv_sub hl [2, 3, 4, 0, 1] rfl)
          refine lv_if_eq (tgt := 65) hx hb dX3_workOut_58 (by decide) (fun c_86 => ?_) (fun c_86 => ?_)
          · have h_81 := it_t h_81 c_86
            refine lv_iconst (v := (0 : Int32)) hx hb dX3_workOut_65 (by decide) ?_
            obtain rfl := Option.some.inj h_81
            exact hJ_82 _ _ _ hP (lv_sub hl [2, 3, 4] rfl)
          · have h_81 := it_f h_81 c_86
            refine lv_iconst (v := (1 : Int32)) hx hb dX3_workOut_61 (by decide) ?_
            refine lv_goto (tgt := 66) hx hb dX3_workOut_62 (by decide) ?_
            obtain rfl := Option.some.inj h_81
            exact hJ_82 _ _ _ hP (lv_sub hl [2, 3, 4] rfl)
  exact hL_41 _ _ _ _ _ _ _ _ h_44 hP (lv_sub hl [3, 2, 1, 0] rfl)
def tw_law_B37 (l2 : Int32) (rc37 : Int32 → ST → Option (ST)) (w3 : Int32) (σ : ST) : Option (ST) :=
  (if l2 ≤ w3 then some (σ) else ck w3 120 (ck w3 120 (st_ (aI σ 0 18 w3 (lI σ 0 16 w3)) (fun (σ_8 : ST) => (rc37 (w3 + (1 : Int32)) σ_8)))))
def tw_law (σ : ST)  : Option (Int32 × ST) :=
  bo2 (tw_workOut σ (-1 : Int32) (gI σ 0 17)) (fun (r_2 : Int32) (σ_3 : ST) => st_ (pI σ_3 0 17 (0 : Int32)) (fun (σ_4 : ST) => (if (gI σ_4 0 23) < 0 then bo (wl2 (tw_law_B37 (gI σ_3 0 17)) FU (0 : Int32) σ_4) (fun (σ_11 : ST) => st_ (pI σ_11 0 19 (gI σ_3 0 17)) (fun (σ_14 : ST) => some ((1 : Int32), σ_14))) else some (((-100 : Int32) - (gI σ_4 0 23)), σ_4))))
abbrev rm_X3_law : Room := rmf 55 1260
set_option maxHeartbeats 4000000 in
set_option maxRecDepth 100000 in
theorem mt_X3_law (l : Launch) (G : GT) (σ : ST)  {r : Int32} {u : ST} (h : tw_law σ = some (r, u)) : CI l tw_ft G yX3_law (ws_ yX3_law cX3_law 4 (some .int)) rm_X3_law 0 0 [.ref (G.2.2.1 0)] σ (r, u) := by
  refine m_enterI (by decide) rfl (lv := [(0, .ref (G.2.2.1 0))]) rfl ?_
  intro p e s m args below meth c H locs ls Q X hret hP hl
  have hx := X.1.1
  have hb := X.1.2.1
  have hown := X.1.2.2.2.1
  have hts := X.1.2.2.2.2
  unfold tw_law at h
  refine lv_aload_n hx hb dX3_law_0 rfl (lv_at hl 0 rfl) ?_
  refine lv_iconst (v := (-1 : Int32)) hx hb dX3_law_1 (by decide) ?_
  refine lv_aload_n hx hb dX3_law_2 rfl (lv_at hl 0 rfl) ?_
  refine r_geti X hP 0 tw_c0 lk_3 17 (Nat.le_of_ble_eq_true rfl) q1655 tw_f17 dX3_law_3 ?_
  obtain ⟨r_2, σ_3, e_1, h⟩ := bo2_ex h
  refine r_calli (r_runV (rest := []) X hP 0 tw_c0 lk_3 (mt_X3_workOut l G σ (-1 : Int32) (gI σ 0 17) e_1) (cwV 2 hts (lw_V q1957 q1959 qs55 q113 q1960) rfl rfl rfl ⟨rfl, cdX3_workOut⟩ ⟨Nat.le_of_ble_eq_true rfl, Nat.le_of_ble_eq_true rfl⟩) rfl hl.1 rfl (Nat.le_of_ble_eq_true rfl) dX3_law_6 ⟨Nat.le_refl _, Nat.le_refl _⟩) hP (fun H locs hP => ?_)
  refine lv_istore_n (lv' := [(1, .int r_2), (0, .ref (G.2.2.1 0))]) hx hb dX3_law_9 rfl hl (by decide) rfl (fun ls hl => ?_)
  refine lv_aload_n hx hb dX3_law_10 rfl (lv_at hl 1 rfl) ?_
  refine r_geti X hP 0 tw_c0 lk_3 17 (Nat.le_of_ble_eq_true rfl) q1655 tw_f17 dX3_law_11 ?_
  refine lv_istore_n (lv' := [(2, .int (gI σ_3 0 17)), (1, .int r_2), (0, .ref (G.2.2.1 0))]) hx hb dX3_law_14 rfl hl (by decide) rfl (fun ls hl => ?_)
  refine lv_aload_n hx hb dX3_law_15 rfl (lv_at hl 2 rfl) ?_
  refine lv_iconst (v := (0 : Int32)) hx hb dX3_law_16 (by decide) ?_
  refine r_puti X tw_w hP 0 tw_c0 lk_3 17 (Nat.le_of_ble_eq_true rfl) q1655 tw_f17 rfl (tyX3_ok 17 (by decide)) rfl rfl dX3_law_17 (fun σ_4 H locs e_5 hP => ?_)
  have h := st_k h e_5
  refine lv_aload_n hx hb dX3_law_20 rfl (lv_at hl 2 rfl) ?_
  refine r_geti X hP 0 tw_c0 lk_3 23 (Nat.le_of_ble_eq_true rfl) q1661 tw_f23 dX3_law_21 ?_
  refine lv_if_lt (tgt := 35) hx hb dX3_law_24 (by decide) (fun c_6 => ?_) (fun c_6 => ?_)
  · have h := it_t h c_6
    refine lv_iconst (v := (0 : Int32)) hx hb dX3_law_35 (by decide) ?_
    refine lv_istore_n (lv' := [(3, .int (0 : Int32)), (2, .int (gI σ_3 0 17)), (1, .int r_2), (0, .ref (G.2.2.1 0))]) hx hb dX3_law_36 rfl hl (by decide) rfl (fun ls hl => ?_)
    obtain ⟨σ_11, h_12, h⟩ := bo_ex h
    have hE_13 : ∀ (H : Heap) (locs : List Loc) (ls : Array Slot), PS tw_ft G s σ_11 H locs → lv_has ls 4 [(0, .ref (G.2.2.1 0)), (2, .int (gI σ_3 0 17))] → W p l e rm_X3_law s m args below meth c H locs 0 0 Q (F0 m 60 ls []) := by
      intro H locs ls hP hl
      refine lv_aload_n hx hb dX3_law_60 rfl (lv_at hl 0 rfl) ?_
      refine lv_iload_n hx hb dX3_law_61 rfl (lv_at hl 1 rfl) ?_
      refine r_puti X tw_w hP 0 tw_c0 lk_3 19 (Nat.le_of_ble_eq_true rfl) q1657 tw_f19 rfl (tyX3_ok 19 (by decide)) rfl rfl dX3_law_62 (fun σ_14 H locs e_15 hP => ?_)
      have h := st_k h e_15
      refine lv_iconst (v := (1 : Int32)) hx hb dX3_law_65 (by decide) ?_
      exact hret _ _ _ _ _ _ dX3_law_66 rfl (Option.some.inj h) hP
    have hL_10 : ∀ (n : Nat) (w_16 : Int32) (σ_17 : ST) (H : Heap) (locs : List Loc) (ls : Array Slot), wl2 (tw_law_B37 (gI σ_3 0 17)) n w_16 σ_17 = some σ_11 → PS tw_ft G s σ_17 H locs → lv_has ls 4 [(0, .ref (G.2.2.1 0)), (2, .int (gI σ_3 0 17)), (3, .int w_16)] → W p l e rm_X3_law s m args below meth c H locs 0 0 Q (F0 m 37 ls []) := by
      intro n
      induction n with
      | zero => intro w_16 σ_17 H locs ls h_18; cases h_18
      | succ n ih =>
        intro w_16 σ_17 H locs ls h_18 hP hl
        have h_18 : tw_law_B37 (gI σ_3 0 17) (wl2 (tw_law_B37 (gI σ_3 0 17)) n) w_16 σ_17 = some _ := h_18
        generalize wl2 (tw_law_B37 (gI σ_3 0 17)) n = rc_19 at h_18 ih
        unfold tw_law_B37 at h_18
        refine lv_iload_n hx hb dX3_law_37 rfl (lv_at hl 2 rfl) ?_
        refine lv_iload_n hx hb dX3_law_38 rfl (lv_at hl 1 rfl) ?_
        refine lv_icmp_ge (tgt := 60) hx hb dX3_law_39 (by decide) (fun c_20 => ?_) (fun c_20 => ?_)
        · have h_18 := it_t h_18 c_20
          obtain rfl := Option.some.inj h_18
          exact hE_13 _ _ _ hP (lv_sub hl [0, 1] rfl)
        · have h_18 := it_f h_18 c_20
          refine lv_aload_n hx hb dX3_law_42 rfl (lv_at hl 0 rfl) ?_
          refine r_geta X hP 0 tw_c0 lk_3 18 (Nat.le_of_ble_eq_true rfl) q1656 tw_f18 dX3_law_43 ?_
          refine lv_iload_n hx hb dX3_law_46 rfl (lv_at hl 2 rfl) ?_
          refine lv_aload_n hx hb dX3_law_47 rfl (lv_at hl 0 rfl) ?_
          refine r_geta X hP 0 tw_c0 lk_3 16 (Nat.le_of_ble_eq_true rfl) q1654 tw_f16 dX3_law_48 ?_
          refine lv_iload_n hx hb dX3_law_51 rfl (lv_at hl 2 rfl) ?_
          refine r_iald X hP 9 tw_c9 (ck_in h_18) dX3_law_52 ?_
          have h_18 := ck_k h_18
          refine r_iast X tw_w hP 10 tw_c10 (ck_in h_18) dX3_law_53 (fun σ_21 H locs e_22 hP => ?_)
          have h_18 := st_k (ck_k h_18) e_22
          refine lv_iinc (v := (w_16 + (1 : Int32))) (lv' := [(3, .int (w_16 + (1 : Int32))), (0, .ref (G.2.2.1 0)), (2, .int (gI σ_3 0 17))]) hx hb dX3_law_54 hl (k := 2) rfl rfl (by decide) rfl (fun ls hl => ?_)
          refine lv_goto (tgt := 37) hx hb dX3_law_57 (by decide) ?_
          exact ih _ _ _ _ _ h_18 hP (lv_sub hl [1, 2, 0] rfl)
    exact hL_10 _ _ _ _ _ _ h_12 hP (lv_sub hl [3, 1, 0] rfl)
  · have h := it_f h c_6
    refine lv_bipush (v := (-100 : Int32)) hx hb dX3_law_27 (by decide) ?_
    refine lv_aload_n hx hb dX3_law_29 rfl (lv_at hl 2 rfl) ?_
    refine r_geti X hP 0 tw_c0 lk_3 23 (Nat.le_of_ble_eq_true rfl) q1661 tw_f23 dX3_law_30 ?_
    refine lv_isub hx hb dX3_law_33 ?_
    exact hret _ _ _ _ _ _ dX3_law_34 rfl (Option.some.inj h) hP
def tw_bitsOf_B4 (σ : ST) (rc4 : Int32 → Int32 → Option (Int32)) (w1 : Int32) (w2 : Int32) : Option (Int32) :=
  (if w2 = 0 then some (w1) else (rc4 (w1 + (1 : Int32)) (w2 &&& (w2 - (1 : Int32)))))
def tw_bitsOf (σ : ST) (a0 : Int32) : Option Int32 :=
  bo (wl2 (tw_bitsOf_B4 σ ) FU (0 : Int32) a0) (fun (o_3 : Int32) => some o_3)
abbrev rm_X3_bitsOf : Room := rmf 0 0
set_option maxHeartbeats 4000000 in
set_option maxRecDepth 100000 in
theorem mt_X3_bitsOf (l : Launch) (G : GT) (σ : ST) (a0 : Int32) {r : Int32} (h : tw_bitsOf σ a0 = some r) : CI l tw_ft G yX3_bitsOf (ws_ yX3_bitsOf cX3_bitsOf 3 (some .int)) rm_X3_bitsOf 0 0 [.int a0] σ (r, σ) := by
  refine m_enterI (by decide) rfl (lv := [(0, .int a0)]) rfl ?_
  intro p e s m args below meth c H locs ls Q X hret hP hl
  have hx := X.1.1
  have hb := X.1.2.1
  have hown := X.1.2.2.2.1
  have hts := X.1.2.2.2.2
  unfold tw_bitsOf at h
  refine lv_iconst (v := (0 : Int32)) hx hb dX3_bitsOf_0 (by decide) ?_
  refine lv_istore_n (lv' := [(1, .int (0 : Int32)), (0, .int a0)]) hx hb dX3_bitsOf_1 rfl hl (by decide) rfl (fun ls hl => ?_)
  refine lv_iload_n hx hb dX3_bitsOf_2 rfl (lv_at hl 1 rfl) ?_
  refine lv_istore_n (lv' := [(2, .int a0), (1, .int (0 : Int32)), (0, .int a0)]) hx hb dX3_bitsOf_3 rfl hl (by decide) rfl (fun ls hl => ?_)
  obtain ⟨o_3, h_4, h⟩ := bo_ex h
  have hE_5 : ∀ (H : Heap) (locs : List Loc) (ls : Array Slot), PS tw_ft G s σ H locs → lv_has ls 3 [(1, .int o_3)] → W p l e rm_X3_bitsOf s m args below meth c H locs 0 0 Q (F0 m 20 ls []) := by
    intro H locs ls hP hl
    refine lv_iload_n hx hb dX3_bitsOf_20 rfl (lv_at hl 0 rfl) ?_
    exact hret _ _ _ _ _ _ dX3_bitsOf_21 rfl (congrArg (fun z9 => (z9, σ)) (Option.some.inj h)) hP
  have hL_2 : ∀ (n : Nat) (w_6 : Int32) (w_7 : Int32) (H : Heap) (locs : List Loc) (ls : Array Slot), wl2 (tw_bitsOf_B4 σ ) n w_6 w_7 = some o_3 → PS tw_ft G s σ H locs → lv_has ls 3 [(1, .int w_6), (2, .int w_7)] → W p l e rm_X3_bitsOf s m args below meth c H locs 0 0 Q (F0 m 4 ls []) := by
    intro n
    induction n with
    | zero => intro w_6 w_7 H locs ls h_8; cases h_8
    | succ n ih =>
      intro w_6 w_7 H locs ls h_8 hP hl
      have h_8 : tw_bitsOf_B4 σ  (wl2 (tw_bitsOf_B4 σ ) n) w_6 w_7 = some _ := h_8
      generalize wl2 (tw_bitsOf_B4 σ ) n = rc_9 at h_8 ih
      unfold tw_bitsOf_B4 at h_8
      refine lv_iload_n hx hb dX3_bitsOf_4 rfl (lv_at hl 1 rfl) ?_
      refine lv_if_eq (tgt := 20) hx hb dX3_bitsOf_5 (by decide) (fun c_10 => ?_) (fun c_10 => ?_)
      · have h_8 := it_t h_8 c_10
        obtain rfl := Option.some.inj h_8
        exact hE_5 _ _ _ hP (lv_sub hl [0] rfl)
      · have h_8 := it_f h_8 c_10
        refine lv_iinc (v := (w_6 + (1 : Int32))) (lv' := [(1, .int (w_6 + (1 : Int32))), (2, .int w_7)]) hx hb dX3_bitsOf_8 hl (k := 0) rfl rfl (by decide) rfl (fun ls hl => ?_)
        refine lv_iload_n hx hb dX3_bitsOf_11 rfl (lv_at hl 1 rfl) ?_
        refine lv_iload_n hx hb dX3_bitsOf_12 rfl (lv_at hl 1 rfl) ?_
        refine lv_iconst (v := (1 : Int32)) hx hb dX3_bitsOf_13 (by decide) ?_
        refine lv_isub hx hb dX3_bitsOf_14 ?_
        refine lv_iand hx hb dX3_bitsOf_15 ?_
        refine lv_istore_n (lv' := [(2, .int (w_7 &&& (w_7 - (1 : Int32)))), (1, .int (w_6 + (1 : Int32)))]) hx hb dX3_bitsOf_16 rfl hl (by decide) rfl (fun ls hl => ?_)
        refine lv_goto (tgt := 4) hx hb dX3_bitsOf_17 (by decide) ?_
        exact ih _ _ _ _ _ h_8 hP (lv_sub hl [1, 0] rfl)
  exact hL_2 _ _ _ _ _ _ h_4 hP (lv_sub hl [1, 0] rfl)
def tw_isAlone (σ : ST) (a1 : Int32) : Option Int32 :=
  ck a1 20 (bo (tw_bitsOf σ ((lI σ 0 12 a1) &&& (((1 : Int32) <<< ((gI σ 0 6) &&& 31)) - (1 : Int32)))) (fun (r_2 : Int32) => (if r_2 = (1 : Int32) then some (1 : Int32) else some (0 : Int32))))
abbrev rm_X3_isAlone : Room := rmf 1 22
set_option maxHeartbeats 4000000 in
set_option maxRecDepth 100000 in
theorem mt_X3_isAlone (l : Launch) (G : GT) (σ : ST) (a1 : Int32) {r : Int32} (h : tw_isAlone σ a1 = some r) : CI l tw_ft G yX3_isAlone (ws_ yX3_isAlone cX3_isAlone 2 (some .boolean)) rm_X3_isAlone 0 0 [.ref (G.2.2.1 0), .int a1] σ (r, σ) := by
  refine m_enterI (by decide) rfl (lv := [(0, .ref (G.2.2.1 0)), (1, .int a1)]) rfl ?_
  intro p e s m args below meth c H locs ls Q X hret hP hl
  have hx := X.1.1
  have hb := X.1.2.1
  have hown := X.1.2.2.2.1
  have hts := X.1.2.2.2.2
  unfold tw_isAlone at h
  refine lv_aload_n hx hb dX3_isAlone_0 rfl (lv_at hl 0 rfl) ?_
  refine r_geta X hP 0 tw_c0 lk_3 12 (Nat.le_of_ble_eq_true rfl) q1650 tw_f12 dX3_isAlone_1 ?_
  refine lv_iload_n hx hb dX3_isAlone_4 rfl (lv_at hl 1 rfl) ?_
  refine r_iald X hP 8 tw_c8 (ck_in h) dX3_isAlone_5 ?_
  have h := ck_k h
  refine lv_iconst (v := (1 : Int32)) hx hb dX3_isAlone_6 (by decide) ?_
  refine lv_aload_n hx hb dX3_isAlone_7 rfl (lv_at hl 0 rfl) ?_
  refine r_geti X hP 0 tw_c0 lk_3 6 (Nat.le_of_ble_eq_true rfl) q1644 tw_f6 dX3_isAlone_8 ?_
  refine lv_ishl hx hb dX3_isAlone_11 ?_
  refine lv_iconst (v := (1 : Int32)) hx hb dX3_isAlone_12 (by decide) ?_
  refine lv_isub hx hb dX3_isAlone_13 ?_
  refine lv_iand hx hb dX3_isAlone_14 ?_
  obtain ⟨r_2, e_1, h⟩ := bo_ex h
  refine r_calli (r_runS (rest := []) X hP (mt_X3_bitsOf l G σ ((lI σ 0 12 a1) &&& (((1 : Int32) <<< ((gI σ 0 6) &&& 31)) - (1 : Int32))) e_1) (va_cwS 1 hts (lw_S q2124 q2125 q113 q2126) rfl rfl rfl cdX3_bitsOf ⟨Nat.le_of_ble_eq_true rfl, Nat.le_of_ble_eq_true rfl⟩) rfl hl.1 rfl (Nat.le_of_ble_eq_true rfl) dX3_isAlone_15 ⟨Nat.le_refl _, Nat.le_refl _⟩) hP (fun H locs hP => ?_)
  refine lv_iconst (v := (1 : Int32)) hx hb dX3_isAlone_18 (by decide) ?_
  refine lv_icmp_ne (tgt := 26) hx hb dX3_isAlone_19 (by decide) (fun c_3 => ?_) (fun c_3 => ?_)
  · have h := it_f h c_3
    refine lv_iconst (v := (0 : Int32)) hx hb dX3_isAlone_26 (by decide) ?_
    exact hret _ _ _ _ _ _ dX3_isAlone_27 rfl (congrArg (fun z9 => (z9, σ)) (Option.some.inj h)) hP
  · have h := it_t h c_3
    refine lv_iconst (v := (1 : Int32)) hx hb dX3_isAlone_22 (by decide) ?_
    refine lv_goto (tgt := 27) hx hb dX3_isAlone_23 (by decide) ?_
    exact hret _ _ _ _ _ _ dX3_isAlone_27 rfl (congrArg (fun z9 => (z9, σ)) (Option.some.inj h)) hP
def tw_isSaid (σ : ST) (a1 : Int32) : Option Int32 :=
  ck a1 20 ((if (lI σ 0 35 a1) = (-2 : Int32) then some (0 : Int32) else some (1 : Int32)))
abbrev rm_X3_isSaid : Room := rmf 0 0
set_option maxHeartbeats 4000000 in
set_option maxRecDepth 100000 in
theorem mt_X3_isSaid (l : Launch) (G : GT) (σ : ST) (a1 : Int32) {r : Int32} (h : tw_isSaid σ a1 = some r) : CI l tw_ft G yX3_isSaid (ws_ yX3_isSaid cX3_isSaid 2 (some .boolean)) rm_X3_isSaid 0 0 [.ref (G.2.2.1 0), .int a1] σ (r, σ) := by
  refine m_enterI (by decide) rfl (lv := [(0, .ref (G.2.2.1 0)), (1, .int a1)]) rfl ?_
  intro p e s m args below meth c H locs ls Q X hret hP hl
  have hx := X.1.1
  have hb := X.1.2.1
  have hown := X.1.2.2.2.1
  have hts := X.1.2.2.2.2
  unfold tw_isSaid at h
  refine lv_aload_n hx hb dX3_isSaid_0 rfl (lv_at hl 0 rfl) ?_
  refine r_geta X hP 0 tw_c0 lk_3 35 (Nat.le_of_ble_eq_true rfl) q1673 tw_f35 dX3_isSaid_1 ?_
  refine lv_iload_n hx hb dX3_isSaid_4 rfl (lv_at hl 1 rfl) ?_
  refine r_iald X hP 15 tw_c15 (ck_in h) dX3_isSaid_5 ?_
  have h := ck_k h
  refine lv_bipush (v := (-2 : Int32)) hx hb dX3_isSaid_6 (by decide) ?_
  refine lv_icmp_eq (tgt := 15) hx hb dX3_isSaid_8 (by decide) (fun c_1 => ?_) (fun c_1 => ?_)
  · have h := it_t h c_1
    refine lv_iconst (v := (0 : Int32)) hx hb dX3_isSaid_15 (by decide) ?_
    exact hret _ _ _ _ _ _ dX3_isSaid_16 rfl (congrArg (fun z9 => (z9, σ)) (Option.some.inj h)) hP
  · have h := it_f h c_1
    refine lv_iconst (v := (1 : Int32)) hx hb dX3_isSaid_11 (by decide) ?_
    refine lv_goto (tgt := 16) hx hb dX3_isSaid_12 (by decide) ?_
    exact hret _ _ _ _ _ _ dX3_isSaid_16 rfl (congrArg (fun z9 => (z9, σ)) (Option.some.inj h)) hP
def tw_aloneSaid_B4 (σ : ST) (l1 : Int32) (rc4 : Int32 → Int32 → Option (Int32)) (w2 : Int32) (w3 : Int32) : Option (Int32) :=
  (if (gI σ 0 9) ≤ w3 then some (w2) else bo (tw_isAlone σ w3) (fun (r_3 : Int32) => bo (if r_3 = 0 then some ((0 : Int32)) else (if l1 = 0 then bo (tw_isSaid σ w3) (fun (r_10 : Int32) => (if r_10 = 0 then some ((0 : Int32)) else some ((1 : Int32)))) else some ((1 : Int32)))) (fun (x_4 : Int32) => (rc4 (w2 + x_4) (w3 + (1 : Int32))))))
def tw_aloneSaid (σ : ST) (a1 : Int32) : Option Int32 :=
  bo (wl2 (tw_aloneSaid_B4 σ a1) FU (0 : Int32) (0 : Int32)) (fun (o_13 : Int32) => some o_13)
abbrev rm_X3_aloneSaid : Room := rmf 2 43
set_option maxHeartbeats 4000000 in
set_option maxRecDepth 100000 in
theorem mt_X3_aloneSaid (l : Launch) (G : GT) (σ : ST) (a1 : Int32) {r : Int32} (h : tw_aloneSaid σ a1 = some r) : CI l tw_ft G yX3_aloneSaid (ws_ yX3_aloneSaid cX3_aloneSaid 4 (some .int)) rm_X3_aloneSaid 0 0 [.ref (G.2.2.1 0), .int a1] σ (r, σ) := by
  refine m_enterI (by decide) rfl (lv := [(0, .ref (G.2.2.1 0)), (1, .int a1)]) rfl ?_
  intro p e s m args below meth c H locs ls Q X hret hP hl
  have hx := X.1.1
  have hb := X.1.2.1
  have hown := X.1.2.2.2.1
  have hts := X.1.2.2.2.2
  unfold tw_aloneSaid at h
  refine lv_iconst (v := (0 : Int32)) hx hb dX3_aloneSaid_0 (by decide) ?_
  refine lv_istore_n (lv' := [(2, .int (0 : Int32)), (0, .ref (G.2.2.1 0)), (1, .int a1)]) hx hb dX3_aloneSaid_1 rfl hl (by decide) rfl (fun ls hl => ?_)
  refine lv_iconst (v := (0 : Int32)) hx hb dX3_aloneSaid_2 (by decide) ?_
  refine lv_istore_n (lv' := [(3, .int (0 : Int32)), (2, .int (0 : Int32)), (0, .ref (G.2.2.1 0)), (1, .int a1)]) hx hb dX3_aloneSaid_3 rfl hl (by decide) rfl (fun ls hl => ?_)
  obtain ⟨o_13, h_14, h⟩ := bo_ex h
  have hE_15 : ∀ (H : Heap) (locs : List Loc) (ls : Array Slot), PS tw_ft G s σ H locs → lv_has ls 4 [(2, .int o_13)] → W p l e rm_X3_aloneSaid s m args below meth c H locs 0 0 Q (F0 m 46 ls []) := by
    intro H locs ls hP hl
    refine lv_iload_n hx hb dX3_aloneSaid_46 rfl (lv_at hl 0 rfl) ?_
    exact hret _ _ _ _ _ _ dX3_aloneSaid_47 rfl (congrArg (fun z9 => (z9, σ)) (Option.some.inj h)) hP
  have hL_12 : ∀ (n : Nat) (w_16 : Int32) (w_17 : Int32) (H : Heap) (locs : List Loc) (ls : Array Slot), wl2 (tw_aloneSaid_B4 σ a1) n w_16 w_17 = some o_13 → PS tw_ft G s σ H locs → lv_has ls 4 [(0, .ref (G.2.2.1 0)), (1, .int a1), (2, .int w_16), (3, .int w_17)] → W p l e rm_X3_aloneSaid s m args below meth c H locs 0 0 Q (F0 m 4 ls []) := by
    intro n
    induction n with
    | zero => intro w_16 w_17 H locs ls h_18; cases h_18
    | succ n ih =>
      intro w_16 w_17 H locs ls h_18 hP hl
      have h_18 : tw_aloneSaid_B4 σ a1 (wl2 (tw_aloneSaid_B4 σ a1) n) w_16 w_17 = some _ := h_18
      generalize wl2 (tw_aloneSaid_B4 σ a1) n = rc_19 at h_18 ih
      unfold tw_aloneSaid_B4 at h_18
      refine lv_iload_n hx hb dX3_aloneSaid_4 rfl (lv_at hl 3 rfl) ?_
      refine lv_aload_n hx hb dX3_aloneSaid_5 rfl (lv_at hl 0 rfl) ?_
      refine r_geti X hP 0 tw_c0 lk_3 9 (Nat.le_of_ble_eq_true rfl) q1647 tw_f9 dX3_aloneSaid_6 ?_
      refine lv_icmp_ge (tgt := 46) hx hb dX3_aloneSaid_9 (by decide) (fun c_20 => ?_) (fun c_20 => ?_)
      · have h_18 := it_t h_18 c_20
        obtain rfl := Option.some.inj h_18
        exact hE_15 _ _ _ hP (lv_sub hl [2] rfl)
      · have h_18 := it_f h_18 c_20
        refine lv_iload_n hx hb dX3_aloneSaid_12 rfl (lv_at hl 2 rfl) ?_
        refine lv_aload_n hx hb dX3_aloneSaid_13 rfl (lv_at hl 0 rfl) ?_
        refine lv_iload_n hx hb dX3_aloneSaid_14 rfl (lv_at hl 3 rfl) ?_
        obtain ⟨r_22, e_21, h_18⟩ := bo_ex h_18
        refine r_calli (r_runV (rest := [.int w_16]) X hP 0 tw_c0 lk_3 (mt_X3_isAlone l G σ w_17 e_21) (cwV 1 hts (lw_V q2120 q2122 qs94 q113 q2123) rfl rfl rfl ⟨rfl, cdX3_isAlone⟩ ⟨Nat.le_of_ble_eq_true rfl, Nat.le_of_ble_eq_true rfl⟩) rfl hl.1 rfl (Nat.le_of_ble_eq_true rfl) dX3_aloneSaid_15 ⟨Nat.le_refl _, Nat.le_refl _⟩) hP (fun H locs hP => ?_)
        obtain ⟨x_23, h_24, h_18⟩ := bo_ex h_18
        have hJ_25 : ∀ (H : Heap) (locs : List Loc) (ls : Array Slot), PS tw_ft G s σ H locs → lv_has ls 4 [(0, .ref (G.2.2.1 0)), (1, .int a1), (3, .int w_17)] → W p l e rm_X3_aloneSaid s m args below meth c H locs 0 0 Q (F0 m 38 ls [.int x_23, .int w_16]) := by
          intro H locs ls hP hl
          refine lv_iadd hx hb dX3_aloneSaid_38 ?_
          refine lv_istore_n (lv' := [(2, .int (w_16 + x_23)), (0, .ref (G.2.2.1 0)), (1, .int a1), (3, .int w_17)]) hx hb dX3_aloneSaid_39 rfl hl (by decide) rfl (fun ls hl => ?_)
          refine lv_iinc (v := (w_17 + (1 : Int32))) (lv' := [(3, .int (w_17 + (1 : Int32))), (2, .int (w_16 + x_23)), (0, .ref (G.2.2.1 0)), (1, .int a1)]) hx hb dX3_aloneSaid_40 hl (k := 3) rfl rfl (by decide) rfl (fun ls hl => ?_)
          refine lv_goto (tgt := 4) hx hb dX3_aloneSaid_43 (by decide) ?_
          exact ih _ _ _ _ _ h_18 hP (lv_sub hl [2, 3, 1, 0] rfl)
        refine lv_if_eq (tgt := 37) hx hb dX3_aloneSaid_18 (by decide) (fun c_26 => ?_) (fun c_26 => ?_)
        · have h_24 := it_t h_24 c_26
          refine lv_iconst (v := (0 : Int32)) hx hb dX3_aloneSaid_37 (by decide) ?_
          obtain rfl := Option.some.inj h_24
          exact hJ_25 _ _ _ hP (lv_sub hl [0, 1, 3] rfl)
        · have h_24 := it_f h_24 c_26
          refine lv_iload_n hx hb dX3_aloneSaid_21 rfl (lv_at hl 1 rfl) ?_
          refine lv_if_ne (tgt := 33) hx hb dX3_aloneSaid_22 (by decide) (fun c_27 => ?_) (fun c_27 => ?_)
          · have h_24 := it_f h_24 c_27
            refine lv_iconst (v := (1 : Int32)) hx hb dX3_aloneSaid_33 (by decide) ?_
            refine lv_goto (tgt := 38) hx hb dX3_aloneSaid_34 (by decide) ?_
            obtain rfl := Option.some.inj h_24
            exact hJ_25 _ _ _ hP (lv_sub hl [0, 1, 3] rfl)
          · have h_24 := it_t h_24 c_27
            refine lv_aload_n hx hb dX3_aloneSaid_25 rfl (lv_at hl 0 rfl) ?_
            refine lv_iload_n hx hb dX3_aloneSaid_26 rfl (lv_at hl 3 rfl) ?_
            obtain ⟨r_29, e_28, h_24⟩ := bo_ex h_24
            refine r_calli (r_runV (rest := [.int w_16]) X hP 0 tw_c0 lk_3 (mt_X3_isSaid l G σ w_17 e_28) (cwV 1 hts (lw_V q2028 q2030 qs71 q113 q2031) rfl rfl rfl ⟨rfl, cdX3_isSaid⟩ ⟨Nat.le_of_ble_eq_true rfl, Nat.le_of_ble_eq_true rfl⟩) rfl hl.1 rfl (Nat.le_of_ble_eq_true rfl) dX3_aloneSaid_27 ⟨Nat.le_refl _, Nat.le_refl _⟩) hP (fun H locs hP => ?_)
            refine lv_if_eq (tgt := 37) hx hb dX3_aloneSaid_30 (by decide) (fun c_30 => ?_) (fun c_30 => ?_)
            · have h_24 := it_t h_24 c_30
              refine lv_iconst (v := (0 : Int32)) hx hb dX3_aloneSaid_37 (by decide) ?_
              obtain rfl := Option.some.inj h_24
              exact hJ_25 _ _ _ hP (lv_sub hl [0, 1, 3] rfl)
            · have h_24 := it_f h_24 c_30
              refine lv_iconst (v := (1 : Int32)) hx hb dX3_aloneSaid_33 (by decide) ?_
              refine lv_goto (tgt := 38) hx hb dX3_aloneSaid_34 (by decide) ?_
              obtain rfl := Option.some.inj h_24
              exact hJ_25 _ _ _ hP (lv_sub hl [0, 1, 3] rfl)
  exact hL_12 _ _ _ _ _ _ h_14 hP (lv_sub hl [2, 3, 1, 0] rfl)
def tw_thereFor (σ : ST) (a1 : Int32) : Option Int32 :=
  ck ((20 : Int32) + a1) 42 ((if (gI σ 0 29) ≤ (lI σ 0 0 ((20 : Int32) + a1)) then some (0 : Int32) else ck ((20 : Int32) + a1) 42 (some ((gI σ 0 29) - (lI σ 0 0 ((20 : Int32) + a1))))))
abbrev rm_X3_thereFor : Room := rmf 0 0
set_option maxHeartbeats 4000000 in
set_option maxRecDepth 100000 in
theorem mt_X3_thereFor (l : Launch) (G : GT) (σ : ST) (a1 : Int32) {r : Int32} (h : tw_thereFor σ a1 = some r) : CI l tw_ft G yX3_thereFor (ws_ yX3_thereFor cX3_thereFor 2 (some .int)) rm_X3_thereFor 0 0 [.ref (G.2.2.1 0), .int a1] σ (r, σ) := by
  refine m_enterI (by decide) rfl (lv := [(0, .ref (G.2.2.1 0)), (1, .int a1)]) rfl ?_
  intro p e s m args below meth c H locs ls Q X hret hP hl
  have hx := X.1.1
  have hb := X.1.2.1
  have hown := X.1.2.2.2.1
  have hts := X.1.2.2.2.2
  unfold tw_thereFor at h
  refine lv_aload_n hx hb dX3_thereFor_0 rfl (lv_at hl 0 rfl) ?_
  refine r_geti X hP 0 tw_c0 lk_3 29 (Nat.le_of_ble_eq_true rfl) q1667 tw_f29 dX3_thereFor_1 ?_
  refine lv_aload_n hx hb dX3_thereFor_4 rfl (lv_at hl 0 rfl) ?_
  refine r_geta X hP 0 tw_c0 lk_3 0 (Nat.le_of_ble_eq_true rfl) q1638 tw_f0 dX3_thereFor_5 ?_
  refine lv_bipush (v := (20 : Int32)) hx hb dX3_thereFor_8 (by decide) ?_
  refine lv_iload_n hx hb dX3_thereFor_10 rfl (lv_at hl 1 rfl) ?_
  refine lv_iadd hx hb dX3_thereFor_11 ?_
  refine r_iald X hP 1 tw_c1 (ck_in h) dX3_thereFor_12 ?_
  have h := ck_k h
  refine lv_icmp_le (tgt := 33) hx hb dX3_thereFor_13 (by decide) (fun c_1 => ?_) (fun c_1 => ?_)
  · have h := it_t h c_1
    refine lv_iconst (v := (0 : Int32)) hx hb dX3_thereFor_33 (by decide) ?_
    exact hret _ _ _ _ _ _ dX3_thereFor_34 rfl (congrArg (fun z9 => (z9, σ)) (Option.some.inj h)) hP
  · have h := it_f h c_1
    refine lv_aload_n hx hb dX3_thereFor_16 rfl (lv_at hl 0 rfl) ?_
    refine r_geti X hP 0 tw_c0 lk_3 29 (Nat.le_of_ble_eq_true rfl) q1667 tw_f29 dX3_thereFor_17 ?_
    refine lv_aload_n hx hb dX3_thereFor_20 rfl (lv_at hl 0 rfl) ?_
    refine r_geta X hP 0 tw_c0 lk_3 0 (Nat.le_of_ble_eq_true rfl) q1638 tw_f0 dX3_thereFor_21 ?_
    refine lv_bipush (v := (20 : Int32)) hx hb dX3_thereFor_24 (by decide) ?_
    refine lv_iload_n hx hb dX3_thereFor_26 rfl (lv_at hl 1 rfl) ?_
    refine lv_iadd hx hb dX3_thereFor_27 ?_
    refine r_iald X hP 1 tw_c1 (ck_in h) dX3_thereFor_28 ?_
    have h := ck_k h
    refine lv_isub hx hb dX3_thereFor_29 ?_
    refine lv_goto (tgt := 34) hx hb dX3_thereFor_30 (by decide) ?_
    exact hret _ _ _ _ _ _ dX3_thereFor_34 rfl (congrArg (fun z9 => (z9, σ)) (Option.some.inj h)) hP
def tw_cost_B4 (σ : ST) (rc4 : Int32 → Int32 → Option (Int32)) (w1 : Int32) (w2 : Int32) : Option (Int32) :=
  (if (gI σ 0 6) ≤ w2 then some (w1) else ck w2 10 (bo (tw_thereFor σ w2) (fun (r_3 : Int32) => (rc4 (w1 + ((lI σ 0 7 w2) * r_3)) (w2 + (1 : Int32))))))
def tw_cost (σ : ST)  : Option Int32 :=
  bo (wl2 (tw_cost_B4 σ ) FU (0 : Int32) (0 : Int32)) (fun (o_5 : Int32) => some o_5)
abbrev rm_X3_cost : Room := rmf 1 21
set_option maxHeartbeats 4000000 in
set_option maxRecDepth 100000 in
theorem mt_X3_cost (l : Launch) (G : GT) (σ : ST)  {r : Int32} (h : tw_cost σ = some r) : CI l tw_ft G yX3_cost (ws_ yX3_cost cX3_cost 3 (some .int)) rm_X3_cost 0 0 [.ref (G.2.2.1 0)] σ (r, σ) := by
  refine m_enterI (by decide) rfl (lv := [(0, .ref (G.2.2.1 0))]) rfl ?_
  intro p e s m args below meth c H locs ls Q X hret hP hl
  have hx := X.1.1
  have hb := X.1.2.1
  have hown := X.1.2.2.2.1
  have hts := X.1.2.2.2.2
  unfold tw_cost at h
  refine lv_iconst (v := (0 : Int32)) hx hb dX3_cost_0 (by decide) ?_
  refine lv_istore_n (lv' := [(1, .int (0 : Int32)), (0, .ref (G.2.2.1 0))]) hx hb dX3_cost_1 rfl hl (by decide) rfl (fun ls hl => ?_)
  refine lv_iconst (v := (0 : Int32)) hx hb dX3_cost_2 (by decide) ?_
  refine lv_istore_n (lv' := [(2, .int (0 : Int32)), (1, .int (0 : Int32)), (0, .ref (G.2.2.1 0))]) hx hb dX3_cost_3 rfl hl (by decide) rfl (fun ls hl => ?_)
  obtain ⟨o_5, h_6, h⟩ := bo_ex h
  have hE_7 : ∀ (H : Heap) (locs : List Loc) (ls : Array Slot), PS tw_ft G s σ H locs → lv_has ls 3 [(1, .int o_5)] → W p l e rm_X3_cost s m args below meth c H locs 0 0 Q (F0 m 33 ls []) := by
    intro H locs ls hP hl
    refine lv_iload_n hx hb dX3_cost_33 rfl (lv_at hl 0 rfl) ?_
    exact hret _ _ _ _ _ _ dX3_cost_34 rfl (congrArg (fun z9 => (z9, σ)) (Option.some.inj h)) hP
  have hL_4 : ∀ (n : Nat) (w_8 : Int32) (w_9 : Int32) (H : Heap) (locs : List Loc) (ls : Array Slot), wl2 (tw_cost_B4 σ ) n w_8 w_9 = some o_5 → PS tw_ft G s σ H locs → lv_has ls 3 [(0, .ref (G.2.2.1 0)), (1, .int w_8), (2, .int w_9)] → W p l e rm_X3_cost s m args below meth c H locs 0 0 Q (F0 m 4 ls []) := by
    intro n
    induction n with
    | zero => intro w_8 w_9 H locs ls h_10; cases h_10
    | succ n ih =>
      intro w_8 w_9 H locs ls h_10 hP hl
      have h_10 : tw_cost_B4 σ  (wl2 (tw_cost_B4 σ ) n) w_8 w_9 = some _ := h_10
      generalize wl2 (tw_cost_B4 σ ) n = rc_11 at h_10 ih
      unfold tw_cost_B4 at h_10
      refine lv_iload_n hx hb dX3_cost_4 rfl (lv_at hl 2 rfl) ?_
      refine lv_aload_n hx hb dX3_cost_5 rfl (lv_at hl 0 rfl) ?_
      refine r_geti X hP 0 tw_c0 lk_3 6 (Nat.le_of_ble_eq_true rfl) q1644 tw_f6 dX3_cost_6 ?_
      refine lv_icmp_ge (tgt := 33) hx hb dX3_cost_9 (by decide) (fun c_12 => ?_) (fun c_12 => ?_)
      · have h_10 := it_t h_10 c_12
        obtain rfl := Option.some.inj h_10
        exact hE_7 _ _ _ hP (lv_sub hl [1] rfl)
      · have h_10 := it_f h_10 c_12
        refine lv_iload_n hx hb dX3_cost_12 rfl (lv_at hl 1 rfl) ?_
        refine lv_aload_n hx hb dX3_cost_13 rfl (lv_at hl 0 rfl) ?_
        refine r_geta X hP 0 tw_c0 lk_3 7 (Nat.le_of_ble_eq_true rfl) q1645 tw_f7 dX3_cost_14 ?_
        refine lv_iload_n hx hb dX3_cost_17 rfl (lv_at hl 2 rfl) ?_
        refine r_iald X hP 5 tw_c5 (ck_in h_10) dX3_cost_18 ?_
        have h_10 := ck_k h_10
        refine lv_aload_n hx hb dX3_cost_19 rfl (lv_at hl 0 rfl) ?_
        refine lv_iload_n hx hb dX3_cost_20 rfl (lv_at hl 2 rfl) ?_
        obtain ⟨r_14, e_13, h_10⟩ := bo_ex h_10
        refine r_calli (r_runV (rest := [.int (lI σ 0 7 w_9), .int w_8]) X hP 0 tw_c0 lk_3 (mt_X3_thereFor l G σ w_9 e_13) (cwV 1 hts (lw_V q2096 q2098 qs88 q113 q2099) rfl rfl rfl ⟨rfl, cdX3_thereFor⟩ ⟨Nat.le_of_ble_eq_true rfl, Nat.le_of_ble_eq_true rfl⟩) rfl hl.1 rfl (Nat.le_of_ble_eq_true rfl) dX3_cost_21 ⟨Nat.le_refl _, Nat.le_refl _⟩) hP (fun H locs hP => ?_)
        refine lv_imul hx hb dX3_cost_24 ?_
        refine lv_iadd hx hb dX3_cost_25 ?_
        refine lv_istore_n (lv' := [(1, .int (w_8 + ((lI σ 0 7 w_9) * r_14))), (0, .ref (G.2.2.1 0)), (2, .int w_9)]) hx hb dX3_cost_26 rfl hl (by decide) rfl (fun ls hl => ?_)
        refine lv_iinc (v := (w_9 + (1 : Int32))) (lv' := [(2, .int (w_9 + (1 : Int32))), (1, .int (w_8 + ((lI σ 0 7 w_9) * r_14))), (0, .ref (G.2.2.1 0))]) hx hb dX3_cost_27 hl (k := 2) rfl rfl (by decide) rfl (fun ls hl => ?_)
        refine lv_goto (tgt := 4) hx hb dX3_cost_30 (by decide) ?_
        exact ih _ _ _ _ _ h_10 hP (lv_sub hl [2, 1, 0] rfl)
  exact hL_4 _ _ _ _ _ _ h_6 hP (lv_sub hl [2, 1, 0] rfl)
def tw_comesTo_B12 (σ : ST) (l1 : Int32) (rc12 : Int32 → Int32 → Option (Int32)) (w2 : Int32) (w3 : Int32) : Option (Int32) :=
  (if (gI σ 0 9) ≤ w3 then some (w2) else ck w3 20 (bo (if (lI σ 0 10 w3) = l1 then bo (tw_isSaid σ w3) (fun (r_7 : Int32) => (if r_7 = 0 then some ((0 : Int32)) else ck w3 20 (some ((lI σ 0 11 w3))))) else some ((0 : Int32))) (fun (x_2 : Int32) => (rc12 (w2 + x_2) (w3 + (1 : Int32))))))
def tw_comesTo (σ : ST) (a1 : Int32) : Option Int32 :=
  ck ((30 : Int32) + a1) 42 (bo (wl2 (tw_comesTo_B12 σ a1) FU (lI σ 0 0 ((30 : Int32) + a1)) (0 : Int32)) (fun (o_10 : Int32) => some o_10))
abbrev rm_X3_comesTo : Room := rmf 1 21
set_option maxHeartbeats 4000000 in
set_option maxRecDepth 100000 in
theorem mt_X3_comesTo (l : Launch) (G : GT) (σ : ST) (a1 : Int32) {r : Int32} (h : tw_comesTo σ a1 = some r) : CI l tw_ft G yX3_comesTo (ws_ yX3_comesTo cX3_comesTo 4 (some .int)) rm_X3_comesTo 0 0 [.ref (G.2.2.1 0), .int a1] σ (r, σ) := by
  refine m_enterI (by decide) rfl (lv := [(0, .ref (G.2.2.1 0)), (1, .int a1)]) rfl ?_
  intro p e s m args below meth c H locs ls Q X hret hP hl
  have hx := X.1.1
  have hb := X.1.2.1
  have hown := X.1.2.2.2.1
  have hts := X.1.2.2.2.2
  unfold tw_comesTo at h
  refine lv_aload_n hx hb dX3_comesTo_0 rfl (lv_at hl 0 rfl) ?_
  refine r_geta X hP 0 tw_c0 lk_3 0 (Nat.le_of_ble_eq_true rfl) q1638 tw_f0 dX3_comesTo_1 ?_
  refine lv_bipush (v := (30 : Int32)) hx hb dX3_comesTo_4 (by decide) ?_
  refine lv_iload_n hx hb dX3_comesTo_6 rfl (lv_at hl 1 rfl) ?_
  refine lv_iadd hx hb dX3_comesTo_7 ?_
  refine r_iald X hP 1 tw_c1 (ck_in h) dX3_comesTo_8 ?_
  have h := ck_k h
  refine lv_istore_n (lv' := [(2, .int (lI σ 0 0 ((30 : Int32) + a1))), (0, .ref (G.2.2.1 0)), (1, .int a1)]) hx hb dX3_comesTo_9 rfl hl (by decide) rfl (fun ls hl => ?_)
  refine lv_iconst (v := (0 : Int32)) hx hb dX3_comesTo_10 (by decide) ?_
  refine lv_istore_n (lv' := [(3, .int (0 : Int32)), (2, .int (lI σ 0 0 ((30 : Int32) + a1))), (0, .ref (G.2.2.1 0)), (1, .int a1)]) hx hb dX3_comesTo_11 rfl hl (by decide) rfl (fun ls hl => ?_)
  obtain ⟨o_10, h_11, h⟩ := bo_ex h
  have hE_12 : ∀ (H : Heap) (locs : List Loc) (ls : Array Slot), PS tw_ft G s σ H locs → lv_has ls 4 [(2, .int o_10)] → W p l e rm_X3_comesTo s m args below meth c H locs 0 0 Q (F0 m 57 ls []) := by
    intro H locs ls hP hl
    refine lv_iload_n hx hb dX3_comesTo_57 rfl (lv_at hl 0 rfl) ?_
    exact hret _ _ _ _ _ _ dX3_comesTo_58 rfl (congrArg (fun z9 => (z9, σ)) (Option.some.inj h)) hP
  have hL_9 : ∀ (n : Nat) (w_13 : Int32) (w_14 : Int32) (H : Heap) (locs : List Loc) (ls : Array Slot), wl2 (tw_comesTo_B12 σ a1) n w_13 w_14 = some o_10 → PS tw_ft G s σ H locs → lv_has ls 4 [(0, .ref (G.2.2.1 0)), (1, .int a1), (2, .int w_13), (3, .int w_14)] → W p l e rm_X3_comesTo s m args below meth c H locs 0 0 Q (F0 m 12 ls []) := by
    intro n
    induction n with
    | zero => intro w_13 w_14 H locs ls h_15; cases h_15
    | succ n ih =>
      intro w_13 w_14 H locs ls h_15 hP hl
      have h_15 : tw_comesTo_B12 σ a1 (wl2 (tw_comesTo_B12 σ a1) n) w_13 w_14 = some _ := h_15
      generalize wl2 (tw_comesTo_B12 σ a1) n = rc_16 at h_15 ih
      unfold tw_comesTo_B12 at h_15
      refine lv_iload_n hx hb dX3_comesTo_12 rfl (lv_at hl 3 rfl) ?_
      refine lv_aload_n hx hb dX3_comesTo_13 rfl (lv_at hl 0 rfl) ?_
      refine r_geti X hP 0 tw_c0 lk_3 9 (Nat.le_of_ble_eq_true rfl) q1647 tw_f9 dX3_comesTo_14 ?_
      refine lv_icmp_ge (tgt := 57) hx hb dX3_comesTo_17 (by decide) (fun c_17 => ?_) (fun c_17 => ?_)
      · have h_15 := it_t h_15 c_17
        obtain rfl := Option.some.inj h_15
        exact hE_12 _ _ _ hP (lv_sub hl [2] rfl)
      · have h_15 := it_f h_15 c_17
        refine lv_iload_n hx hb dX3_comesTo_20 rfl (lv_at hl 2 rfl) ?_
        refine lv_aload_n hx hb dX3_comesTo_21 rfl (lv_at hl 0 rfl) ?_
        refine r_geta X hP 0 tw_c0 lk_3 10 (Nat.le_of_ble_eq_true rfl) q1648 tw_f10 dX3_comesTo_22 ?_
        refine lv_iload_n hx hb dX3_comesTo_25 rfl (lv_at hl 3 rfl) ?_
        refine r_iald X hP 6 tw_c6 (ck_in h_15) dX3_comesTo_26 ?_
        have h_15 := ck_k h_15
        refine lv_iload_n hx hb dX3_comesTo_27 rfl (lv_at hl 1 rfl) ?_
        obtain ⟨x_18, h_19, h_15⟩ := bo_ex h_15
        have hJ_20 : ∀ (H : Heap) (locs : List Loc) (ls : Array Slot), PS tw_ft G s σ H locs → lv_has ls 4 [(0, .ref (G.2.2.1 0)), (1, .int a1), (3, .int w_14)] → W p l e rm_X3_comesTo s m args below meth c H locs 0 0 Q (F0 m 49 ls [.int x_18, .int w_13]) := by
          intro H locs ls hP hl
          refine lv_iadd hx hb dX3_comesTo_49 ?_
          refine lv_istore_n (lv' := [(2, .int (w_13 + x_18)), (0, .ref (G.2.2.1 0)), (1, .int a1), (3, .int w_14)]) hx hb dX3_comesTo_50 rfl hl (by decide) rfl (fun ls hl => ?_)
          refine lv_iinc (v := (w_14 + (1 : Int32))) (lv' := [(3, .int (w_14 + (1 : Int32))), (2, .int (w_13 + x_18)), (0, .ref (G.2.2.1 0)), (1, .int a1)]) hx hb dX3_comesTo_51 hl (k := 3) rfl rfl (by decide) rfl (fun ls hl => ?_)
          refine lv_goto (tgt := 12) hx hb dX3_comesTo_54 (by decide) ?_
          exact ih _ _ _ _ _ h_15 hP (lv_sub hl [2, 3, 1, 0] rfl)
        refine lv_icmp_ne (tgt := 48) hx hb dX3_comesTo_28 (by decide) (fun c_21 => ?_) (fun c_21 => ?_)
        · have h_19 := it_f h_19 c_21
          refine lv_iconst (v := (0 : Int32)) hx hb dX3_comesTo_48 (by decide) ?_
          obtain rfl := Option.some.inj h_19
          exact hJ_20 _ _ _ hP (lv_sub hl [0, 1, 3] rfl)
        · have h_19 := it_t h_19 c_21
          refine lv_aload_n hx hb dX3_comesTo_31 rfl (lv_at hl 0 rfl) ?_
          refine lv_iload_n hx hb dX3_comesTo_32 rfl (lv_at hl 3 rfl) ?_
          obtain ⟨r_23, e_22, h_19⟩ := bo_ex h_19
          refine r_calli (r_runV (rest := [.int w_13]) X hP 0 tw_c0 lk_3 (mt_X3_isSaid l G σ w_14 e_22) (cwV 1 hts (lw_V q2028 q2030 qs71 q113 q2031) rfl rfl rfl ⟨rfl, cdX3_isSaid⟩ ⟨Nat.le_of_ble_eq_true rfl, Nat.le_of_ble_eq_true rfl⟩) rfl hl.1 rfl (Nat.le_of_ble_eq_true rfl) dX3_comesTo_33 ⟨Nat.le_refl _, Nat.le_refl _⟩) hP (fun H locs hP => ?_)
          refine lv_if_eq (tgt := 48) hx hb dX3_comesTo_36 (by decide) (fun c_24 => ?_) (fun c_24 => ?_)
          · have h_19 := it_t h_19 c_24
            refine lv_iconst (v := (0 : Int32)) hx hb dX3_comesTo_48 (by decide) ?_
            obtain rfl := Option.some.inj h_19
            exact hJ_20 _ _ _ hP (lv_sub hl [0, 1, 3] rfl)
          · have h_19 := it_f h_19 c_24
            refine lv_aload_n hx hb dX3_comesTo_39 rfl (lv_at hl 0 rfl) ?_
            refine r_geta X hP 0 tw_c0 lk_3 11 (Nat.le_of_ble_eq_true rfl) q1649 tw_f11 dX3_comesTo_40 ?_
            refine lv_iload_n hx hb dX3_comesTo_43 rfl (lv_at hl 3 rfl) ?_
            refine r_iald X hP 7 tw_c7 (ck_in h_19) dX3_comesTo_44 ?_
            have h_19 := ck_k h_19
            refine lv_goto (tgt := 49) hx hb dX3_comesTo_45 (by decide) ?_
            obtain rfl := Option.some.inj h_19
            exact hJ_20 _ _ _ hP (lv_sub hl [0, 1, 3] rfl)
  exact hL_9 _ _ _ _ _ _ h_11 hP (lv_sub hl [2, 3, 1, 0] rfl)
def tw_decided_B4 (σ : ST) (rc4 : Int32 → Int32 → Option (Int32)) (w1 : Int32) (w2 : Int32) : Option (Int32) :=
  (if (gI σ 0 8) ≤ w2 then some (w1) else bo (tw_comesTo σ w2) (fun (r_3 : Int32) => bo (if r_3 ≤ 0 then some ((0 : Int32)) else some (((1 : Int32) <<< (w2 &&& 31)))) (fun (x_4 : Int32) => (rc4 (w1 ||| x_4) (w2 + (1 : Int32))))))
def tw_decided (σ : ST)  : Option Int32 :=
  bo (wl2 (tw_decided_B4 σ ) FU (0 : Int32) (0 : Int32)) (fun (o_9 : Int32) => some o_9)
abbrev rm_X3_decided : Room := rmf 2 44
set_option maxHeartbeats 4000000 in
set_option maxRecDepth 100000 in
theorem mt_X3_decided (l : Launch) (G : GT) (σ : ST)  {r : Int32} (h : tw_decided σ = some r) : CI l tw_ft G yX3_decided (ws_ yX3_decided cX3_decided 3 (some .int)) rm_X3_decided 0 0 [.ref (G.2.2.1 0)] σ (r, σ) := by
  refine m_enterI (by decide) rfl (lv := [(0, .ref (G.2.2.1 0))]) rfl ?_
  intro p e s m args below meth c H locs ls Q X hret hP hl
  have hx := X.1.1
  have hb := X.1.2.1
  have hown := X.1.2.2.2.1
  have hts := X.1.2.2.2.2
  unfold tw_decided at h
  refine lv_iconst (v := (0 : Int32)) hx hb dX3_decided_0 (by decide) ?_
  refine lv_istore_n (lv' := [(1, .int (0 : Int32)), (0, .ref (G.2.2.1 0))]) hx hb dX3_decided_1 rfl hl (by decide) rfl (fun ls hl => ?_)
  refine lv_iconst (v := (0 : Int32)) hx hb dX3_decided_2 (by decide) ?_
  refine lv_istore_n (lv' := [(2, .int (0 : Int32)), (1, .int (0 : Int32)), (0, .ref (G.2.2.1 0))]) hx hb dX3_decided_3 rfl hl (by decide) rfl (fun ls hl => ?_)
  obtain ⟨o_9, h_10, h⟩ := bo_ex h
  have hE_11 : ∀ (H : Heap) (locs : List Loc) (ls : Array Slot), PS tw_ft G s σ H locs → lv_has ls 3 [(1, .int o_9)] → W p l e rm_X3_decided s m args below meth c H locs 0 0 Q (F0 m 36 ls []) := by
    intro H locs ls hP hl
    refine lv_iload_n hx hb dX3_decided_36 rfl (lv_at hl 0 rfl) ?_
    exact hret _ _ _ _ _ _ dX3_decided_37 rfl (congrArg (fun z9 => (z9, σ)) (Option.some.inj h)) hP
  have hL_8 : ∀ (n : Nat) (w_12 : Int32) (w_13 : Int32) (H : Heap) (locs : List Loc) (ls : Array Slot), wl2 (tw_decided_B4 σ ) n w_12 w_13 = some o_9 → PS tw_ft G s σ H locs → lv_has ls 3 [(0, .ref (G.2.2.1 0)), (1, .int w_12), (2, .int w_13)] → W p l e rm_X3_decided s m args below meth c H locs 0 0 Q (F0 m 4 ls []) := by
    intro n
    induction n with
    | zero => intro w_12 w_13 H locs ls h_14; cases h_14
    | succ n ih =>
      intro w_12 w_13 H locs ls h_14 hP hl
      have h_14 : tw_decided_B4 σ  (wl2 (tw_decided_B4 σ ) n) w_12 w_13 = some _ := h_14
      generalize wl2 (tw_decided_B4 σ ) n = rc_15 at h_14 ih
      unfold tw_decided_B4 at h_14
      refine lv_iload_n hx hb dX3_decided_4 rfl (lv_at hl 2 rfl) ?_
      refine lv_aload_n hx hb dX3_decided_5 rfl (lv_at hl 0 rfl) ?_
      refine r_geti X hP 0 tw_c0 lk_3 8 (Nat.le_of_ble_eq_true rfl) q1646 tw_f8 dX3_decided_6 ?_
      refine lv_icmp_ge (tgt := 36) hx hb dX3_decided_9 (by decide) (fun c_16 => ?_) (fun c_16 => ?_)
      · have h_14 := it_t h_14 c_16
        obtain rfl := Option.some.inj h_14
        exact hE_11 _ _ _ hP (lv_sub hl [1] rfl)
      · have h_14 := it_f h_14 c_16
        refine lv_iload_n hx hb dX3_decided_12 rfl (lv_at hl 1 rfl) ?_
        refine lv_aload_n hx hb dX3_decided_13 rfl (lv_at hl 0 rfl) ?_
        refine lv_iload_n hx hb dX3_decided_14 rfl (lv_at hl 2 rfl) ?_
        obtain ⟨r_18, e_17, h_14⟩ := bo_ex h_14
        refine r_calli (r_runV (rest := [.int w_12]) X hP 0 tw_c0 lk_3 (mt_X3_comesTo l G σ w_13 e_17) (cwV 1 hts (lw_V q2092 q2094 qs87 q113 q2095) rfl rfl rfl ⟨rfl, cdX3_comesTo⟩ ⟨Nat.le_of_ble_eq_true rfl, Nat.le_of_ble_eq_true rfl⟩) rfl hl.1 rfl (Nat.le_of_ble_eq_true rfl) dX3_decided_15 ⟨Nat.le_refl _, Nat.le_refl _⟩) hP (fun H locs hP => ?_)
        obtain ⟨x_19, h_20, h_14⟩ := bo_ex h_14
        have hJ_21 : ∀ (H : Heap) (locs : List Loc) (ls : Array Slot), PS tw_ft G s σ H locs → lv_has ls 3 [(0, .ref (G.2.2.1 0)), (2, .int w_13)] → W p l e rm_X3_decided s m args below meth c H locs 0 0 Q (F0 m 28 ls [.int x_19, .int w_12]) := by
          intro H locs ls hP hl
          refine lv_ior hx hb dX3_decided_28 ?_
          refine lv_istore_n (lv' := [(1, .int (w_12 ||| x_19)), (0, .ref (G.2.2.1 0)), (2, .int w_13)]) hx hb dX3_decided_29 rfl hl (by decide) rfl (fun ls hl => ?_)
          refine lv_iinc (v := (w_13 + (1 : Int32))) (lv' := [(2, .int (w_13 + (1 : Int32))), (1, .int (w_12 ||| x_19)), (0, .ref (G.2.2.1 0))]) hx hb dX3_decided_30 hl (k := 2) rfl rfl (by decide) rfl (fun ls hl => ?_)
          refine lv_goto (tgt := 4) hx hb dX3_decided_33 (by decide) ?_
          exact ih _ _ _ _ _ h_14 hP (lv_sub hl [2, 1, 0] rfl)
        refine lv_if_le (tgt := 27) hx hb dX3_decided_18 (by decide) (fun c_22 => ?_) (fun c_22 => ?_)
        · have h_20 := it_t h_20 c_22
          refine lv_iconst (v := (0 : Int32)) hx hb dX3_decided_27 (by decide) ?_
          obtain rfl := Option.some.inj h_20
          exact hJ_21 _ _ _ hP (lv_sub hl [0, 2] rfl)
        · have h_20 := it_f h_20 c_22
          refine lv_iconst (v := (1 : Int32)) hx hb dX3_decided_21 (by decide) ?_
          refine lv_iload_n hx hb dX3_decided_22 rfl (lv_at hl 2 rfl) ?_
          refine lv_ishl hx hb dX3_decided_23 ?_
          refine lv_goto (tgt := 28) hx hb dX3_decided_24 (by decide) ?_
          obtain rfl := Option.some.inj h_20
          exact hJ_21 _ _ _ hP (lv_sub hl [0, 2] rfl)
  exact hL_8 _ _ _ _ _ _ h_10 hP (lv_sub hl [2, 1, 0] rfl)
def tw_isThere (σ : ST) (a1 : Int32) : Option Int32 :=
  (if a1 = (gI σ 0 28) then some (0 : Int32) else ck ((20 : Int32) + a1) 42 ((if (gI σ 0 29) < (lI σ 0 0 ((20 : Int32) + a1)) then some (0 : Int32) else some (1 : Int32))))
abbrev rm_X3_isThere : Room := rmf 0 0
set_option maxHeartbeats 4000000 in
set_option maxRecDepth 100000 in
theorem mt_X3_isThere (l : Launch) (G : GT) (σ : ST) (a1 : Int32) {r : Int32} (h : tw_isThere σ a1 = some r) : CI l tw_ft G yX3_isThere (ws_ yX3_isThere cX3_isThere 2 (some .boolean)) rm_X3_isThere 0 0 [.ref (G.2.2.1 0), .int a1] σ (r, σ) := by
  refine m_enterI (by decide) rfl (lv := [(0, .ref (G.2.2.1 0)), (1, .int a1)]) rfl ?_
  intro p e s m args below meth c H locs ls Q X hret hP hl
  have hx := X.1.1
  have hb := X.1.2.1
  have hown := X.1.2.2.2.1
  have hts := X.1.2.2.2.2
  unfold tw_isThere at h
  refine lv_iload_n hx hb dX3_isThere_0 rfl (lv_at hl 1 rfl) ?_
  refine lv_aload_n hx hb dX3_isThere_1 rfl (lv_at hl 0 rfl) ?_
  refine r_geti X hP 0 tw_c0 lk_3 28 (Nat.le_of_ble_eq_true rfl) q1666 tw_f28 dX3_isThere_2 ?_
  refine lv_icmp_eq (tgt := 28) hx hb dX3_isThere_5 (by decide) (fun c_1 => ?_) (fun c_1 => ?_)
  · have h := it_t h c_1
    refine lv_iconst (v := (0 : Int32)) hx hb dX3_isThere_28 (by decide) ?_
    exact hret _ _ _ _ _ _ dX3_isThere_29 rfl (congrArg (fun z9 => (z9, σ)) (Option.some.inj h)) hP
  · have h := it_f h c_1
    refine lv_aload_n hx hb dX3_isThere_8 rfl (lv_at hl 0 rfl) ?_
    refine r_geta X hP 0 tw_c0 lk_3 0 (Nat.le_of_ble_eq_true rfl) q1638 tw_f0 dX3_isThere_9 ?_
    refine lv_bipush (v := (20 : Int32)) hx hb dX3_isThere_12 (by decide) ?_
    refine lv_iload_n hx hb dX3_isThere_14 rfl (lv_at hl 1 rfl) ?_
    refine lv_iadd hx hb dX3_isThere_15 ?_
    refine r_iald X hP 1 tw_c1 (ck_in h) dX3_isThere_16 ?_
    have h := ck_k h
    refine lv_aload_n hx hb dX3_isThere_17 rfl (lv_at hl 0 rfl) ?_
    refine r_geti X hP 0 tw_c0 lk_3 29 (Nat.le_of_ble_eq_true rfl) q1667 tw_f29 dX3_isThere_18 ?_
    refine lv_icmp_gt (tgt := 28) hx hb dX3_isThere_21 (by decide) (fun c_2 => ?_) (fun c_2 => ?_)
    · have h := it_t h c_2
      refine lv_iconst (v := (0 : Int32)) hx hb dX3_isThere_28 (by decide) ?_
      exact hret _ _ _ _ _ _ dX3_isThere_29 rfl (congrArg (fun z9 => (z9, σ)) (Option.some.inj h)) hP
    · have h := it_f h c_2
      refine lv_iconst (v := (1 : Int32)) hx hb dX3_isThere_24 (by decide) ?_
      refine lv_goto (tgt := 29) hx hb dX3_isThere_25 (by decide) ?_
      exact hret _ _ _ _ _ _ dX3_isThere_29 rfl (congrArg (fun z9 => (z9, σ)) (Option.some.inj h)) hP
def tw_knows (σ : ST) (a1 : Int32) (a2 : Int32) : Option Int32 :=
  ck a2 20 ((if (((lI σ 0 12 a2) >>> (a1 &&& 31)) &&& (1 : Int32)) = (1 : Int32) then some (1 : Int32) else some (0 : Int32)))
abbrev rm_X3_knows : Room := rmf 0 0
set_option maxHeartbeats 4000000 in
set_option maxRecDepth 100000 in
theorem mt_X3_knows (l : Launch) (G : GT) (σ : ST) (a1 : Int32) (a2 : Int32) {r : Int32} (h : tw_knows σ a1 a2 = some r) : CI l tw_ft G yX3_knows (ws_ yX3_knows cX3_knows 3 (some .boolean)) rm_X3_knows 0 0 [.ref (G.2.2.1 0), .int a1, .int a2] σ (r, σ) := by
  refine m_enterI (by decide) rfl (lv := [(0, .ref (G.2.2.1 0)), (1, .int a1), (2, .int a2)]) rfl ?_
  intro p e s m args below meth c H locs ls Q X hret hP hl
  have hx := X.1.1
  have hb := X.1.2.1
  have hown := X.1.2.2.2.1
  have hts := X.1.2.2.2.2
  unfold tw_knows at h
  refine lv_aload_n hx hb dX3_knows_0 rfl (lv_at hl 0 rfl) ?_
  refine r_geta X hP 0 tw_c0 lk_3 12 (Nat.le_of_ble_eq_true rfl) q1650 tw_f12 dX3_knows_1 ?_
  refine lv_iload_n hx hb dX3_knows_4 rfl (lv_at hl 2 rfl) ?_
  refine r_iald X hP 8 tw_c8 (ck_in h) dX3_knows_5 ?_
  have h := ck_k h
  refine lv_iload_n hx hb dX3_knows_6 rfl (lv_at hl 1 rfl) ?_
  refine lv_ishr hx hb dX3_knows_7 ?_
  refine lv_iconst (v := (1 : Int32)) hx hb dX3_knows_8 (by decide) ?_
  refine lv_iand hx hb dX3_knows_9 ?_
  refine lv_iconst (v := (1 : Int32)) hx hb dX3_knows_10 (by decide) ?_
  refine lv_icmp_ne (tgt := 18) hx hb dX3_knows_11 (by decide) (fun c_1 => ?_) (fun c_1 => ?_)
  · have h := it_f h c_1
    refine lv_iconst (v := (0 : Int32)) hx hb dX3_knows_18 (by decide) ?_
    exact hret _ _ _ _ _ _ dX3_knows_19 rfl (congrArg (fun z9 => (z9, σ)) (Option.some.inj h)) hP
  · have h := it_t h c_1
    refine lv_iconst (v := (1 : Int32)) hx hb dX3_knows_14 (by decide) ?_
    refine lv_goto (tgt := 19) hx hb dX3_knows_15 (by decide) ?_
    exact hret _ _ _ _ _ _ dX3_knows_19 rfl (congrArg (fun z9 => (z9, σ)) (Option.some.inj h)) hP
