set_option maxRecDepth 100000
abbrev rm_X3_init_F : Room := rmc 1 12 44 3940
set_option maxHeartbeats 4000000 in
set_option maxRecDepth 100000 in
theorem mt_X3_init_F (l : Launch) (G : GT) {ft : List FC} (hal : G.2.2.2.2 = true) (σ : ST) (t0 : Nat) {u : ST} (h : tw_init G.2.1 σ t0 = some u) : CV l ft G yX3_init (ws_ yX3_init cX3_init 2 none) rm_X3_init_F 44 3940 [.ref t0] σ u := by
  refine m_enterV (by decide) rfl (lv := [(0, .ref t0)]) rfl ?_
  intro p e s m args below meth c H locs ls Q X hnm hret hP hl
  have hx := X.1.1
  have hb := X.1.2.1
  have hown := X.1.2.2.2.1
  have hts := X.1.2.2.2.2
  unfold tw_init at h
  refine lv_aload_n hx hb dX3_init_0 rfl (lv_at hl 0 rfl) ?_
  refine W.objInit hx hb hown (hts _ q1637) (hts _ q163) (hts _ q164) rfl (by rw [X.1.2.2.1]; exact hl.1) rfl dX3_init_1 (Nat.le_of_ble_eq_true rfl) (Nat.le_of_ble_eq_true rfl) ?_
  refine W.eq (g2 := F0 m 4 ls []) rfl ?_
  refine lv_aload_n hx hb dX3_init_4 rfl (lv_at hl 0 rfl) ?_
  refine lv_bipush (v := (42 : Int32)) hx hb dX3_init_5 (by decide) ?_
  refine r_nai X hal hP (by decide) (by decide) q186 (Nat.le_of_ble_eq_true rfl) (by decide +kernel) dX3_init_7 (fun σ_1 H e_2 hP => ?_)
  have h := st_k h e_2
  refine W.widen (k := 1) (n := 42) (Nat.le_of_ble_eq_true rfl) (by decide +kernel) ?_
  obtain ⟨σ_4, e_3, h⟩ := bo_ex h
  refine r_ppvF (r := (some t0)) X hP lk_3 0 (Nat.le_of_ble_eq_true rfl) e_3 q1638 rfl hnm rfl (tyX3_ok 0 (by decide)) (rr_narA _ (some (szo σ))) (rr_fitA _ (some (szo σ))) dX3_init_9 (fun H locs hP => ?_)
  refine lv_aload_n hx hb dX3_init_12 rfl (lv_at hl 0 rfl) ?_
  refine lv_bipush (v := (40 : Int32)) hx hb dX3_init_13 (by decide) ?_
  refine r_nai X hal hP (by decide) (by decide) q186 (Nat.le_of_ble_eq_true rfl) (by decide +kernel) dX3_init_15 (fun σ_5 H e_6 hP => ?_)
  have h := st_k h e_6
  refine W.widen (k := 2) (n := 82) (Nat.le_of_ble_eq_true rfl) (by decide +kernel) ?_
  obtain ⟨σ_8, e_7, h⟩ := bo_ex h
  refine r_ppvF (r := (some t0)) X hP lk_3 1 (Nat.le_of_ble_eq_true rfl) e_7 q1639 rfl hnm rfl (tyX3_ok 1 (by decide)) (rr_narA _ (some (szo σ_4))) (rr_fitA _ (some (szo σ_4))) dX3_init_17 (fun H locs hP => ?_)
  refine lv_aload_n hx hb dX3_init_20 rfl (lv_at hl 0 rfl) ?_
  refine lv_bipush (v := (40 : Int32)) hx hb dX3_init_21 (by decide) ?_
  refine r_nai X hal hP (by decide) (by decide) q186 (Nat.le_of_ble_eq_true rfl) (by decide +kernel) dX3_init_23 (fun σ_9 H e_10 hP => ?_)
  have h := st_k h e_10
  refine W.widen (k := 3) (n := 122) (Nat.le_of_ble_eq_true rfl) (by decide +kernel) ?_
  obtain ⟨σ_12, e_11, h⟩ := bo_ex h
  refine r_ppvF (r := (some t0)) X hP lk_3 2 (Nat.le_of_ble_eq_true rfl) e_11 q1640 rfl hnm rfl (tyX3_ok 2 (by decide)) (rr_narA _ (some (szo σ_8))) (rr_fitA _ (some (szo σ_8))) dX3_init_25 (fun H locs hP => ?_)
  refine lv_aload_n hx hb dX3_init_28 rfl (lv_at hl 0 rfl) ?_
  refine lv_bipush (v := (40 : Int32)) hx hb dX3_init_29 (by decide) ?_
  refine r_nai X hal hP (by decide) (by decide) q186 (Nat.le_of_ble_eq_true rfl) (by decide +kernel) dX3_init_31 (fun σ_13 H e_14 hP => ?_)
  have h := st_k h e_14
  refine W.widen (k := 4) (n := 162) (Nat.le_of_ble_eq_true rfl) (by decide +kernel) ?_
  obtain ⟨σ_16, e_15, h⟩ := bo_ex h
  refine r_ppvF (r := (some t0)) X hP lk_3 3 (Nat.le_of_ble_eq_true rfl) e_15 q1641 rfl hnm rfl (tyX3_ok 3 (by decide)) (rr_narA _ (some (szo σ_12))) (rr_fitA _ (some (szo σ_12))) dX3_init_33 (fun H locs hP => ?_)
  refine lv_aload_n hx hb dX3_init_36 rfl (lv_at hl 0 rfl) ?_
  refine lv_bipush (v := (10 : Int32)) hx hb dX3_init_37 (by decide) ?_
  refine r_nai X hal hP (by decide) (by decide) q186 (Nat.le_of_ble_eq_true rfl) (by decide +kernel) dX3_init_39 (fun σ_17 H e_18 hP => ?_)
  have h := st_k h e_18
  refine W.widen (k := 5) (n := 172) (Nat.le_of_ble_eq_true rfl) (by decide +kernel) ?_
  obtain ⟨σ_20, e_19, h⟩ := bo_ex h
  refine r_ppvF (r := (some t0)) X hP lk_3 7 (Nat.le_of_ble_eq_true rfl) e_19 q1645 rfl hnm rfl (tyX3_ok 7 (by decide)) (rr_narA _ (some (szo σ_16))) (rr_fitA _ (some (szo σ_16))) dX3_init_41 (fun H locs hP => ?_)
  refine lv_aload_n hx hb dX3_init_44 rfl (lv_at hl 0 rfl) ?_
  refine lv_bipush (v := (20 : Int32)) hx hb dX3_init_45 (by decide) ?_
  refine r_nai X hal hP (by decide) (by decide) q186 (Nat.le_of_ble_eq_true rfl) (by decide +kernel) dX3_init_47 (fun σ_21 H e_22 hP => ?_)
  have h := st_k h e_22
  refine W.widen (k := 6) (n := 192) (Nat.le_of_ble_eq_true rfl) (by decide +kernel) ?_
  obtain ⟨σ_24, e_23, h⟩ := bo_ex h
  refine r_ppvF (r := (some t0)) X hP lk_3 10 (Nat.le_of_ble_eq_true rfl) e_23 q1648 rfl hnm rfl (tyX3_ok 10 (by decide)) (rr_narA _ (some (szo σ_20))) (rr_fitA _ (some (szo σ_20))) dX3_init_49 (fun H locs hP => ?_)
  refine lv_aload_n hx hb dX3_init_52 rfl (lv_at hl 0 rfl) ?_
  refine lv_bipush (v := (20 : Int32)) hx hb dX3_init_53 (by decide) ?_
  refine r_nai X hal hP (by decide) (by decide) q186 (Nat.le_of_ble_eq_true rfl) (by decide +kernel) dX3_init_55 (fun σ_25 H e_26 hP => ?_)
  have h := st_k h e_26
  refine W.widen (k := 7) (n := 212) (Nat.le_of_ble_eq_true rfl) (by decide +kernel) ?_
  obtain ⟨σ_28, e_27, h⟩ := bo_ex h
  refine r_ppvF (r := (some t0)) X hP lk_3 11 (Nat.le_of_ble_eq_true rfl) e_27 q1649 rfl hnm rfl (tyX3_ok 11 (by decide)) (rr_narA _ (some (szo σ_24))) (rr_fitA _ (some (szo σ_24))) dX3_init_57 (fun H locs hP => ?_)
  refine lv_aload_n hx hb dX3_init_60 rfl (lv_at hl 0 rfl) ?_
  refine lv_bipush (v := (20 : Int32)) hx hb dX3_init_61 (by decide) ?_
  refine r_nai X hal hP (by decide) (by decide) q186 (Nat.le_of_ble_eq_true rfl) (by decide +kernel) dX3_init_63 (fun σ_29 H e_30 hP => ?_)
  have h := st_k h e_30
  refine W.widen (k := 8) (n := 232) (Nat.le_of_ble_eq_true rfl) (by decide +kernel) ?_
  obtain ⟨σ_32, e_31, h⟩ := bo_ex h
  refine r_ppvF (r := (some t0)) X hP lk_3 12 (Nat.le_of_ble_eq_true rfl) e_31 q1650 rfl hnm rfl (tyX3_ok 12 (by decide)) (rr_narA _ (some (szo σ_28))) (rr_fitA _ (some (szo σ_28))) dX3_init_65 (fun H locs hP => ?_)
  refine lv_aload_n hx hb dX3_init_68 rfl (lv_at hl 0 rfl) ?_
  refine lv_bipush (v := (120 : Int32)) hx hb dX3_init_69 (by decide) ?_
  refine r_nai X hal hP (by decide) (by decide) q186 (Nat.le_of_ble_eq_true rfl) (by decide +kernel) dX3_init_71 (fun σ_33 H e_34 hP => ?_)
  have h := st_k h e_34
  refine W.widen (k := 9) (n := 352) (Nat.le_of_ble_eq_true rfl) (by decide +kernel) ?_
  obtain ⟨σ_36, e_35, h⟩ := bo_ex h
  refine r_ppvF (r := (some t0)) X hP lk_3 16 (Nat.le_of_ble_eq_true rfl) e_35 q1654 rfl hnm rfl (tyX3_ok 16 (by decide)) (rr_narA _ (some (szo σ_32))) (rr_fitA _ (some (szo σ_32))) dX3_init_73 (fun H locs hP => ?_)
  refine lv_aload_n hx hb dX3_init_76 rfl (lv_at hl 0 rfl) ?_
  refine lv_bipush (v := (120 : Int32)) hx hb dX3_init_77 (by decide) ?_
  refine r_nai X hal hP (by decide) (by decide) q186 (Nat.le_of_ble_eq_true rfl) (by decide +kernel) dX3_init_79 (fun σ_37 H e_38 hP => ?_)
  have h := st_k h e_38
  refine W.widen (k := 10) (n := 472) (Nat.le_of_ble_eq_true rfl) (by decide +kernel) ?_
  obtain ⟨σ_40, e_39, h⟩ := bo_ex h
  refine r_ppvF (r := (some t0)) X hP lk_3 18 (Nat.le_of_ble_eq_true rfl) e_39 q1656 rfl hnm rfl (tyX3_ok 18 (by decide)) (rr_narA _ (some (szo σ_36))) (rr_fitA _ (some (szo σ_36))) dX3_init_81 (fun H locs hP => ?_)
  refine lv_aload_n hx hb dX3_init_84 rfl (lv_at hl 0 rfl) ?_
  refine lv_bipush (v := (8 : Int32)) hx hb dX3_init_85 (by decide) ?_
  refine r_nai X hal hP (by decide) (by decide) q186 (Nat.le_of_ble_eq_true rfl) (by decide +kernel) dX3_init_87 (fun σ_41 H e_42 hP => ?_)
  have h := st_k h e_42
  refine W.widen (k := 11) (n := 480) (Nat.le_of_ble_eq_true rfl) (by decide +kernel) ?_
  obtain ⟨σ_44, e_43, h⟩ := bo_ex h
  refine r_ppvF (r := (some t0)) X hP lk_3 25 (Nat.le_of_ble_eq_true rfl) e_43 q1663 rfl hnm rfl (tyX3_ok 25 (by decide)) (rr_narA _ (some (szo σ_40))) (rr_fitA _ (some (szo σ_40))) dX3_init_89 (fun H locs hP => ?_)
  refine lv_aload_n hx hb dX3_init_92 rfl (lv_at hl 0 rfl) ?_
  refine lv_bipush (v := (10 : Int32)) hx hb dX3_init_93 (by decide) ?_
  refine r_nai X hal hP (by decide) (by decide) q186 (Nat.le_of_ble_eq_true rfl) (by decide +kernel) dX3_init_95 (fun σ_45 H e_46 hP => ?_)
  have h := st_k h e_46
  refine W.widen (k := 12) (n := 490) (Nat.le_of_ble_eq_true rfl) (by decide +kernel) ?_
  obtain ⟨σ_48, e_47, h⟩ := bo_ex h
  refine r_ppvF (r := (some t0)) X hP lk_3 32 (Nat.le_of_ble_eq_true rfl) e_47 q1670 rfl hnm rfl (tyX3_ok 32 (by decide)) (rr_narA _ (some (szo σ_44))) (rr_fitA _ (some (szo σ_44))) dX3_init_97 (fun H locs hP => ?_)
  refine lv_aload_n hx hb dX3_init_100 rfl (lv_at hl 0 rfl) ?_
  refine lv_bipush (v := (10 : Int32)) hx hb dX3_init_101 (by decide) ?_
  refine r_nai X hal hP (by decide) (by decide) q186 (Nat.le_of_ble_eq_true rfl) (by decide +kernel) dX3_init_103 (fun σ_49 H e_50 hP => ?_)
  have h := st_k h e_50
  refine W.widen (k := 13) (n := 500) (Nat.le_of_ble_eq_true rfl) (by decide +kernel) ?_
  obtain ⟨σ_52, e_51, h⟩ := bo_ex h
  refine r_ppvF (r := (some t0)) X hP lk_3 33 (Nat.le_of_ble_eq_true rfl) e_51 q1671 rfl hnm rfl (tyX3_ok 33 (by decide)) (rr_narA _ (some (szo σ_48))) (rr_fitA _ (some (szo σ_48))) dX3_init_105 (fun H locs hP => ?_)
  refine lv_aload_n hx hb dX3_init_108 rfl (lv_at hl 0 rfl) ?_
  refine lv_bipush (v := (10 : Int32)) hx hb dX3_init_109 (by decide) ?_
  refine r_nai X hal hP (by decide) (by decide) q186 (Nat.le_of_ble_eq_true rfl) (by decide +kernel) dX3_init_111 (fun σ_53 H e_54 hP => ?_)
  have h := st_k h e_54
  refine W.widen (k := 14) (n := 510) (Nat.le_of_ble_eq_true rfl) (by decide +kernel) ?_
  obtain ⟨σ_56, e_55, h⟩ := bo_ex h
  refine r_ppvF (r := (some t0)) X hP lk_3 34 (Nat.le_of_ble_eq_true rfl) e_55 q1672 rfl hnm rfl (tyX3_ok 34 (by decide)) (rr_narA _ (some (szo σ_52))) (rr_fitA _ (some (szo σ_52))) dX3_init_113 (fun H locs hP => ?_)
  refine lv_aload_n hx hb dX3_init_116 rfl (lv_at hl 0 rfl) ?_
  refine lv_bipush (v := (20 : Int32)) hx hb dX3_init_117 (by decide) ?_
  refine r_nai X hal hP (by decide) (by decide) q186 (Nat.le_of_ble_eq_true rfl) (by decide +kernel) dX3_init_119 (fun σ_57 H e_58 hP => ?_)
  have h := st_k h e_58
  refine W.widen (k := 15) (n := 530) (Nat.le_of_ble_eq_true rfl) (by decide +kernel) ?_
  obtain ⟨σ_60, e_59, h⟩ := bo_ex h
  refine r_ppvF (r := (some t0)) X hP lk_3 35 (Nat.le_of_ble_eq_true rfl) e_59 q1673 rfl hnm rfl (tyX3_ok 35 (by decide)) (rr_narA _ (some (szo σ_56))) (rr_fitA _ (some (szo σ_56))) dX3_init_121 (fun H locs hP => ?_)
  refine lv_aload_n hx hb dX3_init_124 rfl (lv_at hl 0 rfl) ?_
  refine lv_bipush (v := (20 : Int32)) hx hb dX3_init_125 (by decide) ?_
  refine r_nai X hal hP (by decide) (by decide) q186 (Nat.le_of_ble_eq_true rfl) (by decide +kernel) dX3_init_127 (fun σ_61 H e_62 hP => ?_)
  have h := st_k h e_62
  refine W.widen (k := 16) (n := 550) (Nat.le_of_ble_eq_true rfl) (by decide +kernel) ?_
  obtain ⟨σ_64, e_63, h⟩ := bo_ex h
  refine r_ppvF (r := (some t0)) X hP lk_3 36 (Nat.le_of_ble_eq_true rfl) e_63 q1674 rfl hnm rfl (tyX3_ok 36 (by decide)) (rr_narA _ (some (szo σ_60))) (rr_fitA _ (some (szo σ_60))) dX3_init_129 (fun H locs hP => ?_)
  refine lv_aload_n hx hb dX3_init_132 rfl (lv_at hl 0 rfl) ?_
  refine lv_bipush (v := (6 : Int32)) hx hb dX3_init_133 (by decide) ?_
  refine r_nai X hal hP (by decide) (by decide) q186 (Nat.le_of_ble_eq_true rfl) (by decide +kernel) dX3_init_135 (fun σ_65 H e_66 hP => ?_)
  have h := st_k h e_66
  refine W.widen (k := 17) (n := 556) (Nat.le_of_ble_eq_true rfl) (by decide +kernel) ?_
  obtain ⟨σ_68, e_67, h⟩ := bo_ex h
  refine r_ppvF (r := (some t0)) X hP lk_3 37 (Nat.le_of_ble_eq_true rfl) e_67 q1675 rfl hnm rfl (tyX3_ok 37 (by decide)) (rr_narA _ (some (szo σ_64))) (rr_fitA _ (some (szo σ_64))) dX3_init_137 (fun H locs hP => ?_)
  refine lv_aload_n hx hb dX3_init_140 rfl (lv_at hl 0 rfl) ?_
  refine lv_bipush (v := (6 : Int32)) hx hb dX3_init_141 (by decide) ?_
  refine r_nai X hal hP (by decide) (by decide) q186 (Nat.le_of_ble_eq_true rfl) (by decide +kernel) dX3_init_143 (fun σ_69 H e_70 hP => ?_)
  have h := st_k h e_70
  refine W.widen (k := 18) (n := 562) (Nat.le_of_ble_eq_true rfl) (by decide +kernel) ?_
  obtain ⟨σ_72, e_71, h⟩ := bo_ex h
  refine r_ppvF (r := (some t0)) X hP lk_3 38 (Nat.le_of_ble_eq_true rfl) e_71 q1676 rfl hnm rfl (tyX3_ok 38 (by decide)) (rr_narA _ (some (szo σ_68))) (rr_fitA _ (some (szo σ_68))) dX3_init_145 (fun H locs hP => ?_)
  refine lv_aload_n hx hb dX3_init_148 rfl (lv_at hl 0 rfl) ?_
  refine lv_sipush (v := (200 : Int32)) hx hb dX3_init_149 (by decide) ?_
  refine r_nai X hal hP (by decide) (by decide) q186 (Nat.le_of_ble_eq_true rfl) (by decide +kernel) dX3_init_152 (fun σ_73 H e_74 hP => ?_)
  have h := st_k h e_74
  refine W.widen (k := 19) (n := 762) (Nat.le_of_ble_eq_true rfl) (by decide +kernel) ?_
  obtain ⟨σ_76, e_75, h⟩ := bo_ex h
  refine r_ppvF (r := (some t0)) X hP lk_3 39 (Nat.le_of_ble_eq_true rfl) e_75 q1677 rfl hnm rfl (tyX3_ok 39 (by decide)) (rr_narA _ (some (szo σ_72))) (rr_fitA _ (some (szo σ_72))) dX3_init_154 (fun H locs hP => ?_)
  refine lv_aload_n hx hb dX3_init_157 rfl (lv_at hl 0 rfl) ?_
  refine lv_sipush (v := (200 : Int32)) hx hb dX3_init_158 (by decide) ?_
  refine r_nai X hal hP (by decide) (by decide) q186 (Nat.le_of_ble_eq_true rfl) (by decide +kernel) dX3_init_161 (fun σ_77 H e_78 hP => ?_)
  have h := st_k h e_78
  refine W.widen (k := 20) (n := 962) (Nat.le_of_ble_eq_true rfl) (by decide +kernel) ?_
  obtain ⟨σ_80, e_79, h⟩ := bo_ex h
  refine r_ppvF (r := (some t0)) X hP lk_3 40 (Nat.le_of_ble_eq_true rfl) e_79 q1678 rfl hnm rfl (tyX3_ok 40 (by decide)) (rr_narA _ (some (szo σ_76))) (rr_fitA _ (some (szo σ_76))) dX3_init_163 (fun H locs hP => ?_)
  refine lv_aload_n hx hb dX3_init_166 rfl (lv_at hl 0 rfl) ?_
  refine lv_sipush (v := (200 : Int32)) hx hb dX3_init_167 (by decide) ?_
  refine r_nai X hal hP (by decide) (by decide) q186 (Nat.le_of_ble_eq_true rfl) (by decide +kernel) dX3_init_170 (fun σ_81 H e_82 hP => ?_)
  have h := st_k h e_82
  refine W.widen (k := 21) (n := 1162) (Nat.le_of_ble_eq_true rfl) (by decide +kernel) ?_
  obtain ⟨σ_84, e_83, h⟩ := bo_ex h
  refine r_ppvF (r := (some t0)) X hP lk_3 41 (Nat.le_of_ble_eq_true rfl) e_83 q1679 rfl hnm rfl (tyX3_ok 41 (by decide)) (rr_narA _ (some (szo σ_80))) (rr_fitA _ (some (szo σ_80))) dX3_init_172 (fun H locs hP => ?_)
  refine lv_aload_n hx hb dX3_init_175 rfl (lv_at hl 0 rfl) ?_
  refine lv_sipush (v := (200 : Int32)) hx hb dX3_init_176 (by decide) ?_
  refine r_nai X hal hP (by decide) (by decide) q186 (Nat.le_of_ble_eq_true rfl) (by decide +kernel) dX3_init_179 (fun σ_85 H e_86 hP => ?_)
  have h := st_k h e_86
  refine W.widen (k := 22) (n := 1362) (Nat.le_of_ble_eq_true rfl) (by decide +kernel) ?_
  obtain ⟨σ_88, e_87, h⟩ := bo_ex h
  refine r_ppvF (r := (some t0)) X hP lk_3 42 (Nat.le_of_ble_eq_true rfl) e_87 q1680 rfl hnm rfl (tyX3_ok 42 (by decide)) (rr_narA _ (some (szo σ_84))) (rr_fitA _ (some (szo σ_84))) dX3_init_181 (fun H locs hP => ?_)
  refine lv_aload_n hx hb dX3_init_184 rfl (lv_at hl 0 rfl) ?_
  refine lv_sipush (v := (200 : Int32)) hx hb dX3_init_185 (by decide) ?_
  refine r_nai X hal hP (by decide) (by decide) q186 (Nat.le_of_ble_eq_true rfl) (by decide +kernel) dX3_init_188 (fun σ_89 H e_90 hP => ?_)
  have h := st_k h e_90
  refine W.widen (k := 23) (n := 1562) (Nat.le_of_ble_eq_true rfl) (by decide +kernel) ?_
  obtain ⟨σ_92, e_91, h⟩ := bo_ex h
  refine r_ppvF (r := (some t0)) X hP lk_3 43 (Nat.le_of_ble_eq_true rfl) e_91 q1681 rfl hnm rfl (tyX3_ok 43 (by decide)) (rr_narA _ (some (szo σ_88))) (rr_fitA _ (some (szo σ_88))) dX3_init_190 (fun H locs hP => ?_)
  refine lv_aload_n hx hb dX3_init_193 rfl (lv_at hl 0 rfl) ?_
  refine lv_sipush (v := (200 : Int32)) hx hb dX3_init_194 (by decide) ?_
  refine r_nai X hal hP (by decide) (by decide) q186 (Nat.le_of_ble_eq_true rfl) (by decide +kernel) dX3_init_197 (fun σ_93 H e_94 hP => ?_)
  have h := st_k h e_94
  refine W.widen (k := 24) (n := 1762) (Nat.le_of_ble_eq_true rfl) (by decide +kernel) ?_
  obtain ⟨σ_96, e_95, h⟩ := bo_ex h
  refine r_ppvF (r := (some t0)) X hP lk_3 44 (Nat.le_of_ble_eq_true rfl) e_95 q1682 rfl hnm rfl (tyX3_ok 44 (by decide)) (rr_narA _ (some (szo σ_92))) (rr_fitA _ (some (szo σ_92))) dX3_init_199 (fun H locs hP => ?_)
  refine lv_aload_n hx hb dX3_init_202 rfl (lv_at hl 0 rfl) ?_
  refine lv_sipush (v := (200 : Int32)) hx hb dX3_init_203 (by decide) ?_
  refine r_nai X hal hP (by decide) (by decide) q186 (Nat.le_of_ble_eq_true rfl) (by decide +kernel) dX3_init_206 (fun σ_97 H e_98 hP => ?_)
  have h := st_k h e_98
  refine W.widen (k := 25) (n := 1962) (Nat.le_of_ble_eq_true rfl) (by decide +kernel) ?_
  obtain ⟨σ_100, e_99, h⟩ := bo_ex h
  refine r_ppvF (r := (some t0)) X hP lk_3 45 (Nat.le_of_ble_eq_true rfl) e_99 q1683 rfl hnm rfl (tyX3_ok 45 (by decide)) (rr_narA _ (some (szo σ_96))) (rr_fitA _ (some (szo σ_96))) dX3_init_208 (fun H locs hP => ?_)
  refine lv_aload_n hx hb dX3_init_211 rfl (lv_at hl 0 rfl) ?_
  refine lv_bipush (v := (10 : Int32)) hx hb dX3_init_212 (by decide) ?_
  refine r_nai X hal hP (by decide) (by decide) q186 (Nat.le_of_ble_eq_true rfl) (by decide +kernel) dX3_init_214 (fun σ_101 H e_102 hP => ?_)
  have h := st_k h e_102
  refine W.widen (k := 26) (n := 1972) (Nat.le_of_ble_eq_true rfl) (by decide +kernel) ?_
  obtain ⟨σ_104, e_103, h⟩ := bo_ex h
  refine r_ppvF (r := (some t0)) X hP lk_3 50 (Nat.le_of_ble_eq_true rfl) e_103 q1688 rfl hnm rfl (tyX3_ok 50 (by decide)) (rr_narA _ (some (szo σ_100))) (rr_fitA _ (some (szo σ_100))) dX3_init_216 (fun H locs hP => ?_)
  refine lv_aload_n hx hb dX3_init_219 rfl (lv_at hl 0 rfl) ?_
  refine lv_sipush (v := (200 : Int32)) hx hb dX3_init_220 (by decide) ?_
  refine r_nai X hal hP (by decide) (by decide) q186 (Nat.le_of_ble_eq_true rfl) (by decide +kernel) dX3_init_223 (fun σ_105 H e_106 hP => ?_)
  have h := st_k h e_106
  refine W.widen (k := 27) (n := 2172) (Nat.le_of_ble_eq_true rfl) (by decide +kernel) ?_
  obtain ⟨σ_108, e_107, h⟩ := bo_ex h
  refine r_ppvF (r := (some t0)) X hP lk_3 51 (Nat.le_of_ble_eq_true rfl) e_107 q1689 rfl hnm rfl (tyX3_ok 51 (by decide)) (rr_narA _ (some (szo σ_104))) (rr_fitA _ (some (szo σ_104))) dX3_init_225 (fun H locs hP => ?_)
  refine lv_aload_n hx hb dX3_init_228 rfl (lv_at hl 0 rfl) ?_
  refine lv_sipush (v := (200 : Int32)) hx hb dX3_init_229 (by decide) ?_
  refine r_nai X hal hP (by decide) (by decide) q186 (Nat.le_of_ble_eq_true rfl) (by decide +kernel) dX3_init_232 (fun σ_109 H e_110 hP => ?_)
  have h := st_k h e_110
  refine W.widen (k := 28) (n := 2372) (Nat.le_of_ble_eq_true rfl) (by decide +kernel) ?_
  obtain ⟨σ_112, e_111, h⟩ := bo_ex h
  refine r_ppvF (r := (some t0)) X hP lk_3 52 (Nat.le_of_ble_eq_true rfl) e_111 q1690 rfl hnm rfl (tyX3_ok 52 (by decide)) (rr_narA _ (some (szo σ_108))) (rr_fitA _ (some (szo σ_108))) dX3_init_234 (fun H locs hP => ?_)
  refine lv_aload_n hx hb dX3_init_237 rfl (lv_at hl 0 rfl) ?_
  refine lv_sipush (v := (200 : Int32)) hx hb dX3_init_238 (by decide) ?_
  refine r_nai X hal hP (by decide) (by decide) q186 (Nat.le_of_ble_eq_true rfl) (by decide +kernel) dX3_init_241 (fun σ_113 H e_114 hP => ?_)
  have h := st_k h e_114
  refine W.widen (k := 29) (n := 2572) (Nat.le_of_ble_eq_true rfl) (by decide +kernel) ?_
  obtain ⟨σ_116, e_115, h⟩ := bo_ex h
  refine r_ppvF (r := (some t0)) X hP lk_3 53 (Nat.le_of_ble_eq_true rfl) e_115 q1691 rfl hnm rfl (tyX3_ok 53 (by decide)) (rr_narA _ (some (szo σ_112))) (rr_fitA _ (some (szo σ_112))) dX3_init_243 (fun H locs hP => ?_)
  refine lv_aload_n hx hb dX3_init_246 rfl (lv_at hl 0 rfl) ?_
  refine lv_sipush (v := (200 : Int32)) hx hb dX3_init_247 (by decide) ?_
  refine r_nai X hal hP (by decide) (by decide) q186 (Nat.le_of_ble_eq_true rfl) (by decide +kernel) dX3_init_250 (fun σ_117 H e_118 hP => ?_)
  have h := st_k h e_118
  refine W.widen (k := 30) (n := 2772) (Nat.le_of_ble_eq_true rfl) (by decide +kernel) ?_
  obtain ⟨σ_120, e_119, h⟩ := bo_ex h
  refine r_ppvF (r := (some t0)) X hP lk_3 54 (Nat.le_of_ble_eq_true rfl) e_119 q1692 rfl hnm rfl (tyX3_ok 54 (by decide)) (rr_narA _ (some (szo σ_116))) (rr_fitA _ (some (szo σ_116))) dX3_init_252 (fun H locs hP => ?_)
  refine lv_aload_n hx hb dX3_init_255 rfl (lv_at hl 0 rfl) ?_
  refine lv_sipush (v := (200 : Int32)) hx hb dX3_init_256 (by decide) ?_
  refine r_nai X hal hP (by decide) (by decide) q186 (Nat.le_of_ble_eq_true rfl) (by decide +kernel) dX3_init_259 (fun σ_121 H e_122 hP => ?_)
  have h := st_k h e_122
  refine W.widen (k := 31) (n := 2972) (Nat.le_of_ble_eq_true rfl) (by decide +kernel) ?_
  obtain ⟨σ_124, e_123, h⟩ := bo_ex h
  refine r_ppvF (r := (some t0)) X hP lk_3 55 (Nat.le_of_ble_eq_true rfl) e_123 q1693 rfl hnm rfl (tyX3_ok 55 (by decide)) (rr_narA _ (some (szo σ_120))) (rr_fitA _ (some (szo σ_120))) dX3_init_261 (fun H locs hP => ?_)
  refine lv_aload_n hx hb dX3_init_264 rfl (lv_at hl 0 rfl) ?_
  refine lv_sipush (v := (200 : Int32)) hx hb dX3_init_265 (by decide) ?_
  refine r_nai X hal hP (by decide) (by decide) q186 (Nat.le_of_ble_eq_true rfl) (by decide +kernel) dX3_init_268 (fun σ_125 H e_126 hP => ?_)
  have h := st_k h e_126
  refine W.widen (k := 32) (n := 3172) (Nat.le_of_ble_eq_true rfl) (by decide +kernel) ?_
  obtain ⟨σ_128, e_127, h⟩ := bo_ex h
  refine r_ppvF (r := (some t0)) X hP lk_3 56 (Nat.le_of_ble_eq_true rfl) e_127 q1694 rfl hnm rfl (tyX3_ok 56 (by decide)) (rr_narA _ (some (szo σ_124))) (rr_fitA _ (some (szo σ_124))) dX3_init_270 (fun H locs hP => ?_)
  refine lv_aload_n hx hb dX3_init_273 rfl (lv_at hl 0 rfl) ?_
  refine lv_sipush (v := (200 : Int32)) hx hb dX3_init_274 (by decide) ?_
  refine r_nai X hal hP (by decide) (by decide) q186 (Nat.le_of_ble_eq_true rfl) (by decide +kernel) dX3_init_277 (fun σ_129 H e_130 hP => ?_)
  have h := st_k h e_130
  refine W.widen (k := 33) (n := 3372) (Nat.le_of_ble_eq_true rfl) (by decide +kernel) ?_
  obtain ⟨σ_132, e_131, h⟩ := bo_ex h
  refine r_ppvF (r := (some t0)) X hP lk_3 57 (Nat.le_of_ble_eq_true rfl) e_131 q1695 rfl hnm rfl (tyX3_ok 57 (by decide)) (rr_narA _ (some (szo σ_128))) (rr_fitA _ (some (szo σ_128))) dX3_init_279 (fun H locs hP => ?_)
  refine lv_aload_n hx hb dX3_init_282 rfl (lv_at hl 0 rfl) ?_
  refine lv_bipush (v := (6 : Int32)) hx hb dX3_init_283 (by decide) ?_
  refine r_nai X hal hP (by decide) (by decide) q186 (Nat.le_of_ble_eq_true rfl) (by decide +kernel) dX3_init_285 (fun σ_133 H e_134 hP => ?_)
  have h := st_k h e_134
  refine W.widen (k := 34) (n := 3378) (Nat.le_of_ble_eq_true rfl) (by decide +kernel) ?_
  obtain ⟨σ_136, e_135, h⟩ := bo_ex h
  refine r_ppvF (r := (some t0)) X hP lk_3 58 (Nat.le_of_ble_eq_true rfl) e_135 q1696 rfl hnm rfl (tyX3_ok 58 (by decide)) (rr_narA _ (some (szo σ_132))) (rr_fitA _ (some (szo σ_132))) dX3_init_287 (fun H locs hP => ?_)
  refine lv_aload_n hx hb dX3_init_290 rfl (lv_at hl 0 rfl) ?_
  refine lv_bipush (v := (6 : Int32)) hx hb dX3_init_291 (by decide) ?_
  refine r_nai X hal hP (by decide) (by decide) q186 (Nat.le_of_ble_eq_true rfl) (by decide +kernel) dX3_init_293 (fun σ_137 H e_138 hP => ?_)
  have h := st_k h e_138
  refine W.widen (k := 35) (n := 3384) (Nat.le_of_ble_eq_true rfl) (by decide +kernel) ?_
  obtain ⟨σ_140, e_139, h⟩ := bo_ex h
  refine r_ppvF (r := (some t0)) X hP lk_3 59 (Nat.le_of_ble_eq_true rfl) e_139 q1697 rfl hnm rfl (tyX3_ok 59 (by decide)) (rr_narA _ (some (szo σ_136))) (rr_fitA _ (some (szo σ_136))) dX3_init_295 (fun H locs hP => ?_)
  refine lv_aload_n hx hb dX3_init_298 rfl (lv_at hl 0 rfl) ?_
  refine lv_bipush (v := (20 : Int32)) hx hb dX3_init_299 (by decide) ?_
  refine r_nai X hal hP (by decide) (by decide) q186 (Nat.le_of_ble_eq_true rfl) (by decide +kernel) dX3_init_301 (fun σ_141 H e_142 hP => ?_)
  have h := st_k h e_142
  refine W.widen (k := 36) (n := 3404) (Nat.le_of_ble_eq_true rfl) (by decide +kernel) ?_
  obtain ⟨σ_144, e_143, h⟩ := bo_ex h
  refine r_ppvF (r := (some t0)) X hP lk_3 60 (Nat.le_of_ble_eq_true rfl) e_143 q1698 rfl hnm rfl (tyX3_ok 60 (by decide)) (rr_narA _ (some (szo σ_140))) (rr_fitA _ (some (szo σ_140))) dX3_init_303 (fun H locs hP => ?_)
  refine lv_aload_n hx hb dX3_init_306 rfl (lv_at hl 0 rfl) ?_
  refine lv_bipush (v := (20 : Int32)) hx hb dX3_init_307 (by decide) ?_
  refine r_nai X hal hP (by decide) (by decide) q186 (Nat.le_of_ble_eq_true rfl) (by decide +kernel) dX3_init_309 (fun σ_145 H e_146 hP => ?_)
  have h := st_k h e_146
  refine W.widen (k := 37) (n := 3424) (Nat.le_of_ble_eq_true rfl) (by decide +kernel) ?_
  obtain ⟨σ_148, e_147, h⟩ := bo_ex h
  refine r_ppvF (r := (some t0)) X hP lk_3 61 (Nat.le_of_ble_eq_true rfl) e_147 q1699 rfl hnm rfl (tyX3_ok 61 (by decide)) (rr_narA _ (some (szo σ_144))) (rr_fitA _ (some (szo σ_144))) dX3_init_311 (fun H locs hP => ?_)
  refine lv_aload_n hx hb dX3_init_314 rfl (lv_at hl 0 rfl) ?_
  refine lv_bipush (v := (10 : Int32)) hx hb dX3_init_315 (by decide) ?_
  refine r_nai X hal hP (by decide) (by decide) q186 (Nat.le_of_ble_eq_true rfl) (by decide +kernel) dX3_init_317 (fun σ_149 H e_150 hP => ?_)
  have h := st_k h e_150
  refine W.widen (k := 38) (n := 3434) (Nat.le_of_ble_eq_true rfl) (by decide +kernel) ?_
  obtain ⟨σ_152, e_151, h⟩ := bo_ex h
  refine r_ppvF (r := (some t0)) X hP lk_3 62 (Nat.le_of_ble_eq_true rfl) e_151 q1700 rfl hnm rfl (tyX3_ok 62 (by decide)) (rr_narA _ (some (szo σ_148))) (rr_fitA _ (some (szo σ_148))) dX3_init_319 (fun H locs hP => ?_)
  refine lv_aload_n hx hb dX3_init_322 rfl (lv_at hl 0 rfl) ?_
  refine lv_bipush (v := (50 : Int32)) hx hb dX3_init_323 (by decide) ?_
  refine r_nai X hal hP (by decide) (by decide) q186 (Nat.le_of_ble_eq_true rfl) (by decide +kernel) dX3_init_325 (fun σ_153 H e_154 hP => ?_)
  have h := st_k h e_154
  refine W.widen (k := 39) (n := 3484) (Nat.le_of_ble_eq_true rfl) (by decide +kernel) ?_
  obtain ⟨σ_156, e_155, h⟩ := bo_ex h
  refine r_ppvF (r := (some t0)) X hP lk_3 67 (Nat.le_of_ble_eq_true rfl) e_155 q1705 rfl hnm rfl (tyX3_ok 67 (by decide)) (rr_narA _ (some (szo σ_152))) (rr_fitA _ (some (szo σ_152))) dX3_init_327 (fun H locs hP => ?_)
  refine lv_aload_n hx hb dX3_init_330 rfl (lv_at hl 0 rfl) ?_
  refine lv_bipush (v := (24 : Int32)) hx hb dX3_init_331 (by decide) ?_
  refine r_nai X hal hP (by decide) (by decide) q186 (Nat.le_of_ble_eq_true rfl) (by decide +kernel) dX3_init_333 (fun σ_157 H e_158 hP => ?_)
  have h := st_k h e_158
  refine W.widen (k := 40) (n := 3508) (Nat.le_of_ble_eq_true rfl) (by decide +kernel) ?_
  obtain ⟨σ_160, e_159, h⟩ := bo_ex h
  refine r_ppvF (r := (some t0)) X hP lk_3 68 (Nat.le_of_ble_eq_true rfl) e_159 q1706 rfl hnm rfl (tyX3_ok 68 (by decide)) (rr_narA _ (some (szo σ_156))) (rr_fitA _ (some (szo σ_156))) dX3_init_335 (fun H locs hP => ?_)
  refine lv_aload_n hx hb dX3_init_338 rfl (lv_at hl 0 rfl) ?_
  refine lv_bipush (v := (6 : Int32)) hx hb dX3_init_339 (by decide) ?_
  refine r_nai X hal hP (by decide) (by decide) q186 (Nat.le_of_ble_eq_true rfl) (by decide +kernel) dX3_init_341 (fun σ_161 H e_162 hP => ?_)
  have h := st_k h e_162
  refine W.widen (k := 41) (n := 3514) (Nat.le_of_ble_eq_true rfl) (by decide +kernel) ?_
  obtain ⟨σ_164, e_163, h⟩ := bo_ex h
  refine r_ppvF (r := (some t0)) X hP lk_3 72 (Nat.le_of_ble_eq_true rfl) e_163 q1710 rfl hnm rfl (tyX3_ok 72 (by decide)) (rr_narA _ (some (szo σ_160))) (rr_fitA _ (some (szo σ_160))) dX3_init_343 (fun H locs hP => ?_)
  refine lv_aload_n hx hb dX3_init_346 rfl (lv_at hl 0 rfl) ?_
  refine lv_bipush (v := (6 : Int32)) hx hb dX3_init_347 (by decide) ?_
  refine r_nai X hal hP (by decide) (by decide) q186 (Nat.le_of_ble_eq_true rfl) (by decide +kernel) dX3_init_349 (fun σ_165 H e_166 hP => ?_)
  have h := st_k h e_166
  refine W.widen (k := 42) (n := 3520) (Nat.le_of_ble_eq_true rfl) (by decide +kernel) ?_
  obtain ⟨σ_168, e_167, h⟩ := bo_ex h
  refine r_ppvF (r := (some t0)) X hP lk_3 73 (Nat.le_of_ble_eq_true rfl) e_167 q1711 rfl hnm rfl (tyX3_ok 73 (by decide)) (rr_narA _ (some (szo σ_164))) (rr_fitA _ (some (szo σ_164))) dX3_init_351 (fun H locs hP => ?_)
  refine lv_aload_n hx hb dX3_init_354 rfl (lv_at hl 0 rfl) ?_
  refine lv_sipush (v := (360 : Int32)) hx hb dX3_init_355 (by decide) ?_
  refine r_nal X hal hP (by decide) (by decide) q1488 (Nat.le_of_ble_eq_true rfl) (by decide +kernel) dX3_init_358 (fun σ_169 H e_170 hP => ?_)
  have h := st_k h e_170
  refine W.widen (k := 43) (n := 3880) (Nat.le_of_ble_eq_true rfl) (by decide +kernel) ?_
  obtain ⟨σ_172, e_171, h⟩ := bo_ex h
  refine r_ppvF (r := (some t0)) X hP lk_3 74 (Nat.le_of_ble_eq_true rfl) e_171 q1712 rfl hnm rfl (tyX3_ok 74 (by decide)) (rr_narA _ (some (szo σ_168))) (rr_fitA _ (some (szo σ_168))) dX3_init_360 (fun H locs hP => ?_)
  refine lv_aload_n hx hb dX3_init_363 rfl (lv_at hl 0 rfl) ?_
  refine lv_bipush (v := (60 : Int32)) hx hb dX3_init_364 (by decide) ?_
  refine r_nal X hal hP (by decide) (by decide) q1488 (Nat.le_of_ble_eq_true rfl) (by decide +kernel) dX3_init_366 (fun σ_173 H e_174 hP => ?_)
  have h := st_k h e_174
  refine W.widen (k := 44) (n := 3940) (Nat.le_of_ble_eq_true rfl) (by decide +kernel) ?_
  obtain ⟨σ_176, e_175, h⟩ := bo_ex h
  refine r_ppvF (r := (some t0)) X hP lk_3 75 (Nat.le_of_ble_eq_true rfl) e_175 q1713 rfl hnm rfl (tyX3_ok 75 (by decide)) (rr_narA _ (some (szo σ_172))) (rr_fitA _ (some (szo σ_172))) dX3_init_368 (fun H locs hP => ?_)
  refine lv_iconst (v := (0 : Int32)) hx hb dX3_init_371 (by decide) ?_
  refine lv_istore_n (lv' := [(1, .int (0 : Int32)), (0, .ref t0)]) hx hb dX3_init_372 rfl hl (by decide) rfl (fun ls hl => ?_)
  obtain ⟨σ_183, h_184, h⟩ := bo_ex h
  have hE_185 : ∀ (H : Heap) (locs : List Loc) (ls : Array Slot), PS ft G s σ_183 H locs → lv_has ls 2 [(0, .ref t0)] → W p l e rm_X3_init_F s m args below meth c H locs 44 3940 Q (F0 m 392 ls []) := by
    intro H locs ls hP hl
    refine lv_aload_n hx hb dX3_init_392 rfl (lv_at hl 0 rfl) ?_
    refine lv_iconst (v := (-1 : Int32)) hx hb dX3_init_393 (by decide) ?_
    obtain ⟨σ_187, e_186, h⟩ := bo_ex h
    refine r_ppv (r := (some t0)) X hP lk_3 19 (Nat.le_of_ble_eq_true rfl) e_186 q1657 rfl (tyX3_ok 19 (by decide)) rfl rfl dX3_init_394 (fun H locs hP => ?_)
    refine lv_aload_n hx hb dX3_init_397 rfl (lv_at hl 0 rfl) ?_
    refine lv_iconst (v := (3 : Int32)) hx hb dX3_init_398 (by decide) ?_
    obtain ⟨σ_189, e_188, h⟩ := bo_ex h
    refine r_ppv (r := (some t0)) X hP lk_3 15 (Nat.le_of_ble_eq_true rfl) e_188 q1653 rfl (tyX3_ok 15 (by decide)) rfl rfl dX3_init_399 (fun H locs hP => ?_)
    refine lv_aload_n hx hb dX3_init_402 rfl (lv_at hl 0 rfl) ?_
    refine lv_iconst (v := (-1 : Int32)) hx hb dX3_init_403 (by decide) ?_
    obtain ⟨σ_191, e_190, h⟩ := bo_ex h
    refine r_ppv (r := (some t0)) X hP lk_3 46 (Nat.le_of_ble_eq_true rfl) e_190 q1684 rfl (tyX3_ok 46 (by decide)) rfl rfl dX3_init_404 (fun H locs hP => ?_)
    refine W.widen (k := 44) (n := 3940) (Nat.le_of_ble_eq_true rfl) (Nat.le_of_ble_eq_true rfl) ?_
    exact hret _ _ _ _ _ dX3_init_407 (Option.some.inj h) hP
  have hL_182 : ∀ (n : Nat) (w_192 : Int32) (σ_193 : ST) (H : Heap) (locs : List Loc) (ls : Array Slot), wl2 (tw_init_B373 G.2.1 t0) n w_192 σ_193 = some σ_183 → PS ft G s σ_193 H locs → lv_has ls 2 [(0, .ref t0), (1, .int w_192)] → W p l e rm_X3_init_F s m args below meth c H locs 44 3940 Q (F0 m 373 ls []) := by
    intro n
    induction n with
    | zero => intro w_192 σ_193 H locs ls h_194; cases h_194
    | succ n ih =>
      intro w_192 σ_193 H locs ls h_194 hP hl
      have h_194 : tw_init_B373 G.2.1 t0 (wl2 (tw_init_B373 G.2.1 t0) n) w_192 σ_193 = some _ := h_194
      generalize wl2 (tw_init_B373 G.2.1 t0) n = rc_195 at h_194 ih
      unfold tw_init_B373 at h_194
      refine lv_iload_n hx hb dX3_init_373 rfl (lv_at hl 1 rfl) ?_
      refine lv_bipush (v := (6 : Int32)) hx hb dX3_init_374 (by decide) ?_
      refine lv_icmp_ge (tgt := 392) hx hb dX3_init_376 (by decide) (fun c_196 => ?_) (fun c_196 => ?_)
      · have h_194 := it_t h_194 c_196
        obtain rfl := Option.some.inj h_194
        exact hE_185 _ _ _ hP (lv_sub hl [0] rfl)
      · have h_194 := it_f h_194 c_196
        refine lv_aload_n hx hb dX3_init_379 rfl (lv_at hl 0 rfl) ?_
        obtain ⟨v_198, e_197, h_194⟩ := bo_ex h_194
        refine r_pgr (r := (some t0)) X hP lk_3 72 (Nat.le_of_ble_eq_true rfl) e_197 q1710 dX3_init_380 ?_
        refine lv_iload_n hx hb dX3_init_383 rfl (lv_at hl 1 rfl) ?_
        refine lv_iconst (v := (-1 : Int32)) hx hb dX3_init_384 (by decide) ?_
        obtain ⟨σ_200, e_199, h_194⟩ := bo_ex h_194
        refine r_psi (r := v_198) X hP e_199 dX3_init_385 (fun H locs hP => ?_)
        refine lv_iinc (v := (w_192 + (1 : Int32))) (lv' := [(1, .int (w_192 + (1 : Int32))), (0, .ref t0)]) hx hb dX3_init_386 hl (k := 1) rfl rfl (by decide) rfl (fun ls hl => ?_)
        refine lv_goto (tgt := 373) hx hb dX3_init_389 (by decide) ?_
        exact ih _ _ _ _ _ h_194 hP (lv_sub hl [1, 0] rfl)
  exact hL_182 _ _ _ _ _ _ h_184 hP (lv_sub hl [1, 0] rfl)
