set_option maxRecDepth 100000
def mg_talk_B3 (b : Nat) (l1 : Int32) (l2 : Int32) (l3 : Int32) (rc3 : Int32 → ST → Option (ST)) (w4 : Int32) (σ : ST) : Option (ST) :=
  (if (10 : Int32) ≤ w4 then some (σ) else ck w4 10 (st_ (aI σ (1 + b) 14 w4 (0 : Int32)) (fun (σ_2 : ST) => (rc3 (w4 + (1 : Int32)) σ_2))))
def mg_talk_B34 (b : Nat) (l1 : Int32) (l2 : Int32) (l3 : Int32) (rc34 : ST → Option ST) (σ : ST) : Option ST :=
  ck l1 6 ((if (60 : Int32) ≤ (lI σ (1 + b) 0 l1) then some σ else (if (200 : Int32) ≤ (gI σ (1 + b) 17) then some σ else bo (mg_findWishes b σ l1) (fun (σ_14 : ST) => bo (mg_next b σ_14 l2) (fun (r_16 : Int32) => (if 0 ≤ r_16 then bo (mg_speak b σ_14 r_16 l1 l3) (fun (σ_19 : ST) => (rc34 σ_19)) else some σ_14))))))
def mg_talk (b : Nat) (σ : ST) (a1 : Int32) (a2 : Int32) (a3 : Int32) : Option ST :=
  bo (wl2 (mg_talk_B3 b a1 a2 a3) FU (0 : Int32) σ) (fun (σ_5 : ST) => bo (if a2 = (5 : Int32) then bo (mg_layPaper b σ_5 a1) (fun (σ_34 : ST) => some (σ_34)) else some (σ_5)) (fun (σ_8 : ST) => wl1 (mg_talk_B34 b a1 a2 a3) FU σ_8))
abbrev rm_X2_talk : Room := rmf 264 7893
set_option maxHeartbeats 4000000 in
set_option maxRecDepth 100000 in
theorem mt_X2_talk (l : Launch) (G : GT) (b : Nat) (hbb : b < 2) (σ : ST) (a1 : Int32) (a2 : Int32) (a3 : Int32) {u : ST} (h : mg_talk b σ a1 a2 a3 = some u) : CV l cp_ft G yX2_talk (ws_ yX2_talk cX2_talk 5 none) rm_X2_talk 0 0 [.ref (G.2.2.1 (15 + 17 * b)), .int a1, .int a2, .int a3] σ u := by
  refine m_enterV (by decide) rfl (lv := [(0, .ref (G.2.2.1 (15 + 17 * b))), (1, .int a1), (2, .int a2), (3, .int a3)]) rfl ?_
  intro p e s m args below meth c H locs ls Q X hnm hret hP hl
  have hx := X.1.1
  have hb := X.1.2.1
  have hown := X.1.2.2.2.1
  have hts := X.1.2.2.2.2
  unfold mg_talk at h
  refine lv_iconst (v := (0 : Int32)) hx hb dX2_talk_0 (by decide) ?_
  refine lv_istore (lv' := [(4, .int (0 : Int32)), (0, .ref (G.2.2.1 (15 + 17 * b))), (1, .int a1), (2, .int a2), (3, .int a3)]) hx hb dX2_talk_1 hl (by decide) rfl (fun ls hl => ?_)
  obtain ⟨σ_5, h_6, h⟩ := bo_ex h
  have hE_7 : ∀ (H : Heap) (locs : List Loc) (ls : Array Slot), PS cp_ft G s σ_5 H locs → lv_has ls 5 [(0, .ref (G.2.2.1 (15 + 17 * b))), (1, .int a1), (2, .int a2), (3, .int a3)] → W p l e rm_X2_talk s m args below meth c H locs 0 0 Q (F0 m 24 ls []) := by
    intro H locs ls hP hl
    refine lv_iload_n hx hb dX2_talk_24 rfl (lv_at hl 2 rfl) ?_
    refine lv_iconst (v := (5 : Int32)) hx hb dX2_talk_25 (by decide) ?_
    obtain ⟨σ_8, h_9, h⟩ := bo_ex h
    have hJ_10 : ∀ (H : Heap) (locs : List Loc) (ls : Array Slot), PS cp_ft G s σ_8 H locs → lv_has ls 5 [(0, .ref (G.2.2.1 (15 + 17 * b))), (1, .int a1), (2, .int a2), (3, .int a3)] → W p l e rm_X2_talk s m args below meth c H locs 0 0 Q (F0 m 34 ls []) := by
      intro H locs ls hP hl
      have hL_20 : ∀ (n : Nat) (σ_21 : ST) (H : Heap) (locs : List Loc) (ls : Array Slot), wl1 (mg_talk_B34 b a1 a2 a3) n σ_21 = some u → PS cp_ft G s σ_21 H locs → lv_has ls 5 [(0, .ref (G.2.2.1 (15 + 17 * b))), (1, .int a1), (2, .int a2), (3, .int a3)] → W p l e rm_X2_talk s m args below meth c H locs 0 0 Q (F0 m 34 ls []) := by
        intro n
        induction n with
        | zero => intro σ_21 H locs ls h; cases h
        | succ n ih =>
          intro σ_21 H locs ls h hP hl
          have h : mg_talk_B34 b a1 a2 a3 (wl1 (mg_talk_B34 b a1 a2 a3) n) σ_21 = some _ := h
          generalize wl1 (mg_talk_B34 b a1 a2 a3) n = rc_22 at h ih
          unfold mg_talk_B34 at h
          refine lv_aload_n hx hb dX2_talk_34 rfl (lv_at hl 0 rfl) ?_
          refine r_geta X hP (15 + 17 * b) (mg_c b hbb) lk_2 0 (Nat.le_of_ble_eq_true rfl) q193 (mg_f0 b) dX2_talk_35 ?_
          refine lv_iload_n hx hb dX2_talk_38 rfl (lv_at hl 1 rfl) ?_
          refine r_iald X hP (16 + 17 * b + 0) (mg_a0 b hbb) (ck_in h) dX2_talk_39 ?_
          have h := ck_k h
          refine lv_bipush (v := (60 : Int32)) hx hb dX2_talk_40 (by decide) ?_
          refine lv_icmp_ge (tgt := 84) hx hb dX2_talk_42 (by decide) (fun c_23 => ?_) (fun c_23 => ?_)
          · have h := it_t h c_23
            exact hret _ _ _ _ _ dX2_talk_84 (Option.some.inj h) hP
          · have h := it_f h c_23
            refine lv_aload_n hx hb dX2_talk_45 rfl (lv_at hl 0 rfl) ?_
            refine r_geti X hP (15 + 17 * b) (mg_c b hbb) lk_2 17 (Nat.le_of_ble_eq_true rfl) q224 (mg_f17 b) dX2_talk_46 ?_
            refine lv_sipush (v := (200 : Int32)) hx hb dX2_talk_49 (by decide) ?_
            refine lv_icmp_ge (tgt := 84) hx hb dX2_talk_52 (by decide) (fun c_24 => ?_) (fun c_24 => ?_)
            · have h := it_t h c_24
              exact hret _ _ _ _ _ dX2_talk_84 (Option.some.inj h) hP
            · have h := it_f h c_24
              refine lv_aload_n hx hb dX2_talk_55 rfl (lv_at hl 0 rfl) ?_
              refine lv_iload_n hx hb dX2_talk_56 rfl (lv_at hl 1 rfl) ?_
              obtain ⟨σ_26, e_25, h⟩ := bo_ex h
              refine r_callv (r_runV (rest := []) X hP (15 + 17 * b) (mg_c b hbb) lk_2 (mt_X2_findWishes l G b hbb σ_21 a1 e_25) (cwV 1 hts (lw_V q964 q966 qs26 q112 q967) rfl rfl rfl ⟨rfl, cdX2_findWishes⟩ ⟨Nat.le_of_ble_eq_true rfl, Nat.le_of_ble_eq_true rfl⟩) rfl hl.1 rfl (Nat.le_of_ble_eq_true rfl) dX2_talk_57 ⟨Nat.le_refl _, Nat.le_refl _⟩) hP (fun H locs hP => ?_)
              refine lv_aload_n hx hb dX2_talk_60 rfl (lv_at hl 0 rfl) ?_
              refine lv_iload_n hx hb dX2_talk_61 rfl (lv_at hl 2 rfl) ?_
              obtain ⟨r_28, e_27, h⟩ := bo_ex h
              refine r_calli (r_runV (rest := []) X hP (15 + 17 * b) (mg_c b hbb) lk_2 (mt_X2_next l G b hbb σ_26 a2 e_27) (cwV 1 hts (lw_V q1008 q1010 qs30 q112 q1011) rfl rfl rfl ⟨rfl, cdX2_next⟩ ⟨Nat.le_of_ble_eq_true rfl, Nat.le_of_ble_eq_true rfl⟩) rfl hl.1 rfl (Nat.le_of_ble_eq_true rfl) dX2_talk_62 ⟨Nat.le_refl _, Nat.le_refl _⟩) hP (fun H locs hP => ?_)
              refine lv_istore (lv' := [(4, .int r_28), (0, .ref (G.2.2.1 (15 + 17 * b))), (1, .int a1), (2, .int a2), (3, .int a3)]) hx hb dX2_talk_65 hl (by decide) rfl (fun ls hl => ?_)
              refine lv_iload hx hb dX2_talk_67 (lv_at hl 0 rfl) ?_
              refine lv_if_ge (tgt := 73) hx hb dX2_talk_69 (by decide) (fun c_29 => ?_) (fun c_29 => ?_)
              · have h := it_t h c_29
                refine lv_aload_n hx hb dX2_talk_73 rfl (lv_at hl 1 rfl) ?_
                refine lv_iload hx hb dX2_talk_74 (lv_at hl 0 rfl) ?_
                refine lv_iload_n hx hb dX2_talk_76 rfl (lv_at hl 2 rfl) ?_
                refine lv_iload_n hx hb dX2_talk_77 rfl (lv_at hl 4 rfl) ?_
                obtain ⟨σ_31, e_30, h⟩ := bo_ex h
                refine r_callv (r_runV (rest := []) X hP (15 + 17 * b) (mg_c b hbb) lk_2 (mt_X2_speak l G b hbb σ_26 r_28 a1 a3 e_30) (cwV 3 hts (lw_V q1029 q1031 qs35 q112 q1032) rfl rfl rfl ⟨rfl, cdX2_speak⟩ ⟨Nat.le_of_ble_eq_true rfl, Nat.le_of_ble_eq_true rfl⟩) rfl hl.1 rfl (Nat.le_of_ble_eq_true rfl) dX2_talk_78 ⟨Nat.le_refl _, Nat.le_refl _⟩) hP (fun H locs hP => ?_)
                refine lv_goto (tgt := 34) hx hb dX2_talk_81 (by decide) ?_
                exact ih _ _ _ _ h hP (lv_sub hl [1, 2, 3, 4] rfl)
              · have h := it_f h c_29
                exact hret _ _ _ _ _ dX2_talk_72 (Option.some.inj h) hP
      exact hL_20 _ _ _ _ _ h hP (lv_sub hl [0, 1, 2, 3] rfl)
    refine lv_icmp_ne (tgt := 34) hx hb dX2_talk_26 (by decide) (fun c_32 => ?_) (fun c_32 => ?_)
    · have h_9 := it_f h_9 c_32
      obtain rfl := Option.some.inj h_9
      exact hJ_10 _ _ _ hP (lv_sub hl [0, 1, 2, 3] rfl)
    · have h_9 := it_t h_9 c_32
      refine lv_aload_n hx hb dX2_talk_29 rfl (lv_at hl 0 rfl) ?_
      refine lv_iload_n hx hb dX2_talk_30 rfl (lv_at hl 1 rfl) ?_
      obtain ⟨σ_34, e_33, h_9⟩ := bo_ex h_9
      refine r_callv (r_runV (rest := []) X hP (15 + 17 * b) (mg_c b hbb) lk_2 (mt_X2_layPaper l G b hbb σ_5 a1 e_33) (cwV 1 hts (lw_V q948 q950 qs24 q112 q951) rfl rfl rfl ⟨rfl, cdX2_layPaper⟩ ⟨Nat.le_of_ble_eq_true rfl, Nat.le_of_ble_eq_true rfl⟩) rfl hl.1 rfl (Nat.le_of_ble_eq_true rfl) dX2_talk_31 ⟨Nat.le_refl _, Nat.le_refl _⟩) hP (fun H locs hP => ?_)
      obtain rfl := Option.some.inj h_9
      exact hJ_10 _ _ _ hP (lv_sub hl [0, 1, 2, 3] rfl)
  have hL_4 : ∀ (n : Nat) (w_35 : Int32) (σ_36 : ST) (H : Heap) (locs : List Loc) (ls : Array Slot), wl2 (mg_talk_B3 b a1 a2 a3) n w_35 σ_36 = some σ_5 → PS cp_ft G s σ_36 H locs → lv_has ls 5 [(0, .ref (G.2.2.1 (15 + 17 * b))), (1, .int a1), (2, .int a2), (3, .int a3), (4, .int w_35)] → W p l e rm_X2_talk s m args below meth c H locs 0 0 Q (F0 m 3 ls []) := by
    intro n
    induction n with
    | zero => intro w_35 σ_36 H locs ls h_37; cases h_37
    | succ n ih =>
      intro w_35 σ_36 H locs ls h_37 hP hl
      have h_37 : mg_talk_B3 b a1 a2 a3 (wl2 (mg_talk_B3 b a1 a2 a3) n) w_35 σ_36 = some _ := h_37
      generalize wl2 (mg_talk_B3 b a1 a2 a3) n = rc_38 at h_37 ih
      unfold mg_talk_B3 at h_37
      refine lv_iload hx hb dX2_talk_3 (lv_at hl 4 rfl) ?_
      refine lv_bipush (v := (10 : Int32)) hx hb dX2_talk_5 (by decide) ?_
      refine lv_icmp_ge (tgt := 24) hx hb dX2_talk_7 (by decide) (fun c_39 => ?_) (fun c_39 => ?_)
      · have h_37 := it_t h_37 c_39
        obtain rfl := Option.some.inj h_37
        exact hE_7 _ _ _ hP (lv_sub hl [0, 1, 2, 3] rfl)
      · have h_37 := it_f h_37 c_39
        refine lv_aload_n hx hb dX2_talk_10 rfl (lv_at hl 0 rfl) ?_
        refine r_geta X hP (15 + 17 * b) (mg_c b hbb) lk_2 14 (Nat.le_of_ble_eq_true rfl) q220 (mg_f14 b) dX2_talk_11 ?_
        refine lv_iload hx hb dX2_talk_14 (lv_at hl 4 rfl) ?_
        refine lv_iconst (v := (0 : Int32)) hx hb dX2_talk_16 (by decide) ?_
        refine r_iast X cp_w hP (16 + 17 * b + 14) (mg_a14 b hbb) (ck_in h_37) dX2_talk_17 (fun σ_40 H locs e_41 hP => ?_)
        have h_37 := st_k (ck_k h_37) e_41
        refine lv_iinc (v := (w_35 + (1 : Int32))) (lv' := [(4, .int (w_35 + (1 : Int32))), (0, .ref (G.2.2.1 (15 + 17 * b))), (1, .int a1), (2, .int a2), (3, .int a3)]) hx hb dX2_talk_18 hl (k := 4) rfl rfl (by decide) rfl (fun ls hl => ?_)
        refine lv_goto (tgt := 3) hx hb dX2_talk_21 (by decide) ?_
        exact ih _ _ _ _ _ h_37 hP (lv_sub hl [1, 2, 3, 4, 0] rfl)
  exact hL_4 _ _ _ _ _ _ h_6 hP (lv_sub hl [1, 2, 3, 4, 0] rfl)
def mg_go_B29 (b : Nat) (l2 : Int32) (l3 : Int32) (rc29 : Int32 → ST → Option (ST)) (w5 : Int32) (σ : ST) : Option (ST) :=
  (if (6 : Int32) ≤ w5 then some (σ) else ck w5 6 (st_ (aI σ (1 + b) 0 w5 (0 : Int32)) (fun (σ_12 : ST) => (rc29 (w5 + (1 : Int32)) σ_12))))
def mg_go_B53 (b : Nat) (l2 : Int32) (l3 : Int32) (rc53 : Int32 → ST → Option (ST)) (w5 : Int32) (σ : ST) : Option (ST) :=
  (if (10 : Int32) ≤ w5 then some (σ) else ck w5 10 (st_ (aI σ (1 + b) 10 w5 (0 : Int32)) (fun (σ_19 : ST) => ck w5 10 (st_ (aI σ_19 (1 + b) 11 w5 (0 : Int32)) (fun (σ_21 : ST) => ck w5 10 (st_ (aI σ_21 (1 + b) 12 w5 (0 : Int32)) (fun (σ_23 : ST) => ck w5 10 (st_ (aI σ_23 (1 + b) 13 w5 (-1 : Int32)) (fun (σ_25 : ST) => (rc53 (w5 + (1 : Int32)) σ_25))))))))))
def mg_go_B101 (b : Nat) (l2 : Int32) (l3 : Int32) (rc101 : Int32 → ST → Option (ST)) (w5 : Int32) (σ : ST) : Option (ST) :=
  (if (20 : Int32) ≤ w5 then some (σ) else ck w5 20 (st_ (aI σ (1 + b) 8 w5 (-2 : Int32)) (fun (σ_32 : ST) => ck w5 20 (st_ (aI σ_32 (1 + b) 9 w5 (-2 : Int32)) (fun (σ_34 : ST) => (rc101 (w5 + (1 : Int32)) σ_34))))))
def mg_go_B135 (b : Nat) (l2 : Int32) (l3 : Int32) (rc135 : Int32 → ST → Option (ST)) (w5 : Int32) (σ : ST) : Option (ST) :=
  (if (gI σ 0 4) ≤ w5 then some (σ) else ck w5 6 (bo (mg_talk b σ (lI σ 0 16 w5) l2 l3) (fun (σ_42 : ST) => (rc135 (w5 + (1 : Int32)) σ_42))))
def mg_go (b : Nat) (σ : ST) (a2 : Int32) (a3 : Int32) (a4 : Int32) : Option ST :=
  st_ (pI σ (1 + b) 20 a4) (fun (σ_1 : ST) => st_ (pI σ_1 (1 + b) 16 (0 : Int32)) (fun (σ_3 : ST) => st_ (pI σ_3 (1 + b) 17 (0 : Int32)) (fun (σ_5 : ST) => st_ (pI σ_5 (1 + b) 18 (0 : Int32)) (fun (σ_7 : ST) => st_ (pI σ_7 (1 + b) 19 (-1 : Int32)) (fun (σ_9 : ST) => bo (wl2 (mg_go_B29 b a2 a3) FU (0 : Int32) σ_9) (fun (σ_15 : ST) => bo (wl2 (mg_go_B53 b a2 a3) FU (0 : Int32) σ_15) (fun (σ_28 : ST) => bo (wl2 (mg_go_B101 b a2 a3) FU (0 : Int32) σ_28) (fun (σ_37 : ST) => bo (wl2 (mg_go_B135 b a2 a3) FU (0 : Int32) σ_37) (fun (σ_44 : ST) => some σ_44)))))))))
abbrev rm_X2_go : Room := rmf 265 7917
set_option maxHeartbeats 4000000 in
set_option maxRecDepth 100000 in
theorem mt_X2_go (l : Launch) (G : GT) (b : Nat) (hbb : b < 2) (σ : ST) (a2 : Int32) (a3 : Int32) (a4 : Int32) {u : ST} (h : mg_go b σ a2 a3 a4 = some u) : CV l cp_ft G yX2_go (ws_ yX2_go cX2_go 6 none) rm_X2_go 0 0 [.ref (G.2.2.1 (15 + 17 * b)), .ref (G.2.2.1 6), .int a2, .int a3, .int a4] σ u := by
  refine m_enterV (by decide) rfl (lv := [(0, .ref (G.2.2.1 (15 + 17 * b))), (1, .ref (G.2.2.1 6)), (2, .int a2), (3, .int a3), (4, .int a4)]) rfl ?_
  intro p e s m args below meth c H locs ls Q X hnm hret hP hl
  have hx := X.1.1
  have hb := X.1.2.1
  have hown := X.1.2.2.2.1
  have hts := X.1.2.2.2.2
  unfold mg_go at h
  refine lv_aload_n hx hb dX2_go_0 rfl (lv_at hl 0 rfl) ?_
  refine lv_iload hx hb dX2_go_1 (lv_at hl 4 rfl) ?_
  refine r_puti X cp_w hP (15 + 17 * b) (mg_c b hbb) lk_2 20 (Nat.le_of_ble_eq_true rfl) q229 (mg_f20 b) rfl (tyX2_ok 20 (by decide)) rfl rfl dX2_go_3 (fun σ_1 H locs e_2 hP => ?_)
  have h := st_k h e_2
  refine lv_aload_n hx hb dX2_go_6 rfl (lv_at hl 0 rfl) ?_
  refine lv_iconst (v := (0 : Int32)) hx hb dX2_go_7 (by decide) ?_
  refine r_puti X cp_w hP (15 + 17 * b) (mg_c b hbb) lk_2 16 (Nat.le_of_ble_eq_true rfl) q222 (mg_f16 b) rfl (tyX2_ok 16 (by decide)) rfl rfl dX2_go_8 (fun σ_3 H locs e_4 hP => ?_)
  have h := st_k h e_4
  refine lv_aload_n hx hb dX2_go_11 rfl (lv_at hl 0 rfl) ?_
  refine lv_iconst (v := (0 : Int32)) hx hb dX2_go_12 (by decide) ?_
  refine r_puti X cp_w hP (15 + 17 * b) (mg_c b hbb) lk_2 17 (Nat.le_of_ble_eq_true rfl) q224 (mg_f17 b) rfl (tyX2_ok 17 (by decide)) rfl rfl dX2_go_13 (fun σ_5 H locs e_6 hP => ?_)
  have h := st_k h e_6
  refine lv_aload_n hx hb dX2_go_16 rfl (lv_at hl 0 rfl) ?_
  refine lv_iconst (v := (0 : Int32)) hx hb dX2_go_17 (by decide) ?_
  refine r_puti X cp_w hP (15 + 17 * b) (mg_c b hbb) lk_2 18 (Nat.le_of_ble_eq_true rfl) q226 (mg_f18 b) rfl (tyX2_ok 18 (by decide)) rfl rfl dX2_go_18 (fun σ_7 H locs e_8 hP => ?_)
  have h := st_k h e_8
  refine lv_aload_n hx hb dX2_go_21 rfl (lv_at hl 0 rfl) ?_
  refine lv_iconst (v := (-1 : Int32)) hx hb dX2_go_22 (by decide) ?_
  refine r_puti X cp_w hP (15 + 17 * b) (mg_c b hbb) lk_2 19 (Nat.le_of_ble_eq_true rfl) q228 (mg_f19 b) rfl (tyX2_ok 19 (by decide)) rfl rfl dX2_go_23 (fun σ_9 H locs e_10 hP => ?_)
  have h := st_k h e_10
  refine lv_iconst (v := (0 : Int32)) hx hb dX2_go_26 (by decide) ?_
  refine lv_istore (lv' := [(5, .int (0 : Int32)), (0, .ref (G.2.2.1 (15 + 17 * b))), (1, .ref (G.2.2.1 6)), (2, .int a2), (3, .int a3), (4, .int a4)]) hx hb dX2_go_27 hl (by decide) rfl (fun ls hl => ?_)
  obtain ⟨σ_15, h_16, h⟩ := bo_ex h
  have hE_17 : ∀ (H : Heap) (locs : List Loc) (ls : Array Slot), PS cp_ft G s σ_15 H locs → lv_has ls 6 [(0, .ref (G.2.2.1 (15 + 17 * b))), (1, .ref (G.2.2.1 6)), (2, .int a2), (3, .int a3)] → W p l e rm_X2_go s m args below meth c H locs 0 0 Q (F0 m 50 ls []) := by
    intro H locs ls hP hl
    refine lv_iconst (v := (0 : Int32)) hx hb dX2_go_50 (by decide) ?_
    refine lv_istore (lv' := [(5, .int (0 : Int32)), (0, .ref (G.2.2.1 (15 + 17 * b))), (1, .ref (G.2.2.1 6)), (2, .int a2), (3, .int a3)]) hx hb dX2_go_51 hl (by decide) rfl (fun ls hl => ?_)
    obtain ⟨σ_28, h_29, h⟩ := bo_ex h
    have hE_30 : ∀ (H : Heap) (locs : List Loc) (ls : Array Slot), PS cp_ft G s σ_28 H locs → lv_has ls 6 [(0, .ref (G.2.2.1 (15 + 17 * b))), (1, .ref (G.2.2.1 6)), (2, .int a2), (3, .int a3)] → W p l e rm_X2_go s m args below meth c H locs 0 0 Q (F0 m 98 ls []) := by
      intro H locs ls hP hl
      refine lv_iconst (v := (0 : Int32)) hx hb dX2_go_98 (by decide) ?_
      refine lv_istore (lv' := [(5, .int (0 : Int32)), (0, .ref (G.2.2.1 (15 + 17 * b))), (1, .ref (G.2.2.1 6)), (2, .int a2), (3, .int a3)]) hx hb dX2_go_99 hl (by decide) rfl (fun ls hl => ?_)
      obtain ⟨σ_37, h_38, h⟩ := bo_ex h
      have hE_39 : ∀ (H : Heap) (locs : List Loc) (ls : Array Slot), PS cp_ft G s σ_37 H locs → lv_has ls 6 [(0, .ref (G.2.2.1 (15 + 17 * b))), (1, .ref (G.2.2.1 6)), (2, .int a2), (3, .int a3)] → W p l e rm_X2_go s m args below meth c H locs 0 0 Q (F0 m 132 ls []) := by
        intro H locs ls hP hl
        refine lv_iconst (v := (0 : Int32)) hx hb dX2_go_132 (by decide) ?_
        refine lv_istore (lv' := [(5, .int (0 : Int32)), (0, .ref (G.2.2.1 (15 + 17 * b))), (1, .ref (G.2.2.1 6)), (2, .int a2), (3, .int a3)]) hx hb dX2_go_133 hl (by decide) rfl (fun ls hl => ?_)
        obtain ⟨σ_44, h_45, h⟩ := bo_ex h
        have hE_46 : ∀ (H : Heap) (locs : List Loc) (ls : Array Slot), PS cp_ft G s σ_44 H locs → lv_has ls 6 [] → W p l e rm_X2_go s m args below meth c H locs 0 0 Q (F0 m 163 ls []) := by
          intro H locs ls hP hl
          exact hret _ _ _ _ _ dX2_go_163 (Option.some.inj h) hP
        have hL_43 : ∀ (n : Nat) (w_47 : Int32) (σ_48 : ST) (H : Heap) (locs : List Loc) (ls : Array Slot), wl2 (mg_go_B135 b a2 a3) n w_47 σ_48 = some σ_44 → PS cp_ft G s σ_48 H locs → lv_has ls 6 [(0, .ref (G.2.2.1 (15 + 17 * b))), (1, .ref (G.2.2.1 6)), (2, .int a2), (3, .int a3), (5, .int w_47)] → W p l e rm_X2_go s m args below meth c H locs 0 0 Q (F0 m 135 ls []) := by
          intro n
          induction n with
          | zero => intro w_47 σ_48 H locs ls h_49; cases h_49
          | succ n ih =>
            intro w_47 σ_48 H locs ls h_49 hP hl
            have h_49 : mg_go_B135 b a2 a3 (wl2 (mg_go_B135 b a2 a3) n) w_47 σ_48 = some _ := h_49
            generalize wl2 (mg_go_B135 b a2 a3) n = rc_50 at h_49 ih
            unfold mg_go_B135 at h_49
            refine lv_iload hx hb dX2_go_135 (lv_at hl 4 rfl) ?_
            refine lv_aload_n hx hb dX2_go_137 rfl (lv_at hl 0 rfl) ?_
            refine r_geta X hP (15 + 17 * b) (mg_c b hbb) lk_2 21 (Nat.le_of_ble_eq_true rfl) q230 (mg_f21 b) dX2_go_138 ?_
            refine r_getiN X hP 0 cp_c0 lk_0 4 (Nat.le_of_ble_eq_true rfl) q288 cp_f4 dX2_go_141 ?_
            refine lv_icmp_ge (tgt := 163) hx hb dX2_go_144 (by decide) (fun c_51 => ?_) (fun c_51 => ?_)
            · have h_49 := it_t h_49 c_51
              obtain rfl := Option.some.inj h_49
              exact hE_46 _ _ _ hP (lv_sub hl [] rfl)
            · have h_49 := it_f h_49 c_51
              refine lv_aload_n hx hb dX2_go_147 rfl (lv_at hl 0 rfl) ?_
              refine lv_aload_n hx hb dX2_go_148 rfl (lv_at hl 1 rfl) ?_
              refine lv_iload hx hb dX2_go_149 (lv_at hl 4 rfl) ?_
              refine r_iald X hP 6 cp_c6 (ck_in h_49) dX2_go_151 ?_
              have h_49 := ck_k h_49
              refine lv_iload_n hx hb dX2_go_152 rfl (lv_at hl 2 rfl) ?_
              refine lv_iload_n hx hb dX2_go_153 rfl (lv_at hl 3 rfl) ?_
              obtain ⟨σ_53, e_52, h_49⟩ := bo_ex h_49
              refine r_callv (r_runV (rest := []) X hP (15 + 17 * b) (mg_c b hbb) lk_2 (mt_X2_talk l G b hbb σ_48 (lI σ_48 0 16 w_47) a2 a3 e_52) (cwV 3 hts (lw_V q944 q946 qs23 q112 q947) rfl rfl rfl ⟨rfl, cdX2_talk⟩ ⟨Nat.le_of_ble_eq_true rfl, Nat.le_of_ble_eq_true rfl⟩) rfl hl.1 rfl (Nat.le_of_ble_eq_true rfl) dX2_go_154 ⟨Nat.le_refl _, Nat.le_refl _⟩) hP (fun H locs hP => ?_)
              refine lv_iinc (v := (w_47 + (1 : Int32))) (lv' := [(5, .int (w_47 + (1 : Int32))), (0, .ref (G.2.2.1 (15 + 17 * b))), (1, .ref (G.2.2.1 6)), (2, .int a2), (3, .int a3)]) hx hb dX2_go_157 hl (k := 4) rfl rfl (by decide) rfl (fun ls hl => ?_)
              refine lv_goto (tgt := 135) hx hb dX2_go_160 (by decide) ?_
              exact ih _ _ _ _ _ h_49 hP (lv_sub hl [1, 2, 3, 4, 0] rfl)
        exact hL_43 _ _ _ _ _ _ h_45 hP (lv_sub hl [1, 2, 3, 4, 0] rfl)
      have hL_36 : ∀ (n : Nat) (w_54 : Int32) (σ_55 : ST) (H : Heap) (locs : List Loc) (ls : Array Slot), wl2 (mg_go_B101 b a2 a3) n w_54 σ_55 = some σ_37 → PS cp_ft G s σ_55 H locs → lv_has ls 6 [(0, .ref (G.2.2.1 (15 + 17 * b))), (1, .ref (G.2.2.1 6)), (2, .int a2), (3, .int a3), (5, .int w_54)] → W p l e rm_X2_go s m args below meth c H locs 0 0 Q (F0 m 101 ls []) := by
        intro n
        induction n with
        | zero => intro w_54 σ_55 H locs ls h_56; cases h_56
        | succ n ih =>
          intro w_54 σ_55 H locs ls h_56 hP hl
          have h_56 : mg_go_B101 b a2 a3 (wl2 (mg_go_B101 b a2 a3) n) w_54 σ_55 = some _ := h_56
          generalize wl2 (mg_go_B101 b a2 a3) n = rc_57 at h_56 ih
          unfold mg_go_B101 at h_56
          refine lv_iload hx hb dX2_go_101 (lv_at hl 4 rfl) ?_
          refine lv_bipush (v := (20 : Int32)) hx hb dX2_go_103 (by decide) ?_
          refine lv_icmp_ge (tgt := 132) hx hb dX2_go_105 (by decide) (fun c_58 => ?_) (fun c_58 => ?_)
          · have h_56 := it_t h_56 c_58
            obtain rfl := Option.some.inj h_56
            exact hE_39 _ _ _ hP (lv_sub hl [0, 1, 2, 3] rfl)
          · have h_56 := it_f h_56 c_58
            refine lv_aload_n hx hb dX2_go_108 rfl (lv_at hl 0 rfl) ?_
            refine r_geta X hP (15 + 17 * b) (mg_c b hbb) lk_2 8 (Nat.le_of_ble_eq_true rfl) q209 (mg_f8 b) dX2_go_109 ?_
            refine lv_iload hx hb dX2_go_112 (lv_at hl 4 rfl) ?_
            refine lv_bipush (v := (-2 : Int32)) hx hb dX2_go_114 (by decide) ?_
            refine r_iast X cp_w hP (16 + 17 * b + 8) (mg_a8 b hbb) (ck_in h_56) dX2_go_116 (fun σ_59 H locs e_60 hP => ?_)
            have h_56 := st_k (ck_k h_56) e_60
            refine lv_aload_n hx hb dX2_go_117 rfl (lv_at hl 0 rfl) ?_
            refine r_geta X hP (15 + 17 * b) (mg_c b hbb) lk_2 9 (Nat.le_of_ble_eq_true rfl) q211 (mg_f9 b) dX2_go_118 ?_
            refine lv_iload hx hb dX2_go_121 (lv_at hl 4 rfl) ?_
            refine lv_bipush (v := (-2 : Int32)) hx hb dX2_go_123 (by decide) ?_
            refine r_iast X cp_w hP (16 + 17 * b + 9) (mg_a9 b hbb) (ck_in h_56) dX2_go_125 (fun σ_61 H locs e_62 hP => ?_)
            have h_56 := st_k (ck_k h_56) e_62
            refine lv_iinc (v := (w_54 + (1 : Int32))) (lv' := [(5, .int (w_54 + (1 : Int32))), (0, .ref (G.2.2.1 (15 + 17 * b))), (1, .ref (G.2.2.1 6)), (2, .int a2), (3, .int a3)]) hx hb dX2_go_126 hl (k := 4) rfl rfl (by decide) rfl (fun ls hl => ?_)
            refine lv_goto (tgt := 101) hx hb dX2_go_129 (by decide) ?_
            exact ih _ _ _ _ _ h_56 hP (lv_sub hl [1, 2, 3, 4, 0] rfl)
      exact hL_36 _ _ _ _ _ _ h_38 hP (lv_sub hl [1, 2, 3, 4, 0] rfl)
    have hL_27 : ∀ (n : Nat) (w_63 : Int32) (σ_64 : ST) (H : Heap) (locs : List Loc) (ls : Array Slot), wl2 (mg_go_B53 b a2 a3) n w_63 σ_64 = some σ_28 → PS cp_ft G s σ_64 H locs → lv_has ls 6 [(0, .ref (G.2.2.1 (15 + 17 * b))), (1, .ref (G.2.2.1 6)), (2, .int a2), (3, .int a3), (5, .int w_63)] → W p l e rm_X2_go s m args below meth c H locs 0 0 Q (F0 m 53 ls []) := by
      intro n
      induction n with
      | zero => intro w_63 σ_64 H locs ls h_65; cases h_65
      | succ n ih =>
        intro w_63 σ_64 H locs ls h_65 hP hl
        have h_65 : mg_go_B53 b a2 a3 (wl2 (mg_go_B53 b a2 a3) n) w_63 σ_64 = some _ := h_65
        generalize wl2 (mg_go_B53 b a2 a3) n = rc_66 at h_65 ih
        unfold mg_go_B53 at h_65
        refine lv_iload hx hb dX2_go_53 (lv_at hl 4 rfl) ?_
        refine lv_bipush (v := (10 : Int32)) hx hb dX2_go_55 (by decide) ?_
        refine lv_icmp_ge (tgt := 98) hx hb dX2_go_57 (by decide) (fun c_67 => ?_) (fun c_67 => ?_)
        · have h_65 := it_t h_65 c_67
          obtain rfl := Option.some.inj h_65
          exact hE_30 _ _ _ hP (lv_sub hl [0, 1, 2, 3] rfl)
        · have h_65 := it_f h_65 c_67
          refine lv_aload_n hx hb dX2_go_60 rfl (lv_at hl 0 rfl) ?_
          refine r_geta X hP (15 + 17 * b) (mg_c b hbb) lk_2 10 (Nat.le_of_ble_eq_true rfl) q213 (mg_f10 b) dX2_go_61 ?_
          refine lv_iload hx hb dX2_go_64 (lv_at hl 4 rfl) ?_
          refine lv_iconst (v := (0 : Int32)) hx hb dX2_go_66 (by decide) ?_
          refine r_iast X cp_w hP (16 + 17 * b + 10) (mg_a10 b hbb) (ck_in h_65) dX2_go_67 (fun σ_68 H locs e_69 hP => ?_)
          have h_65 := st_k (ck_k h_65) e_69
          refine lv_aload_n hx hb dX2_go_68 rfl (lv_at hl 0 rfl) ?_
          refine r_geta X hP (15 + 17 * b) (mg_c b hbb) lk_2 11 (Nat.le_of_ble_eq_true rfl) q215 (mg_f11 b) dX2_go_69 ?_
          refine lv_iload hx hb dX2_go_72 (lv_at hl 4 rfl) ?_
          refine lv_iconst (v := (0 : Int32)) hx hb dX2_go_74 (by decide) ?_
          refine r_iast X cp_w hP (16 + 17 * b + 11) (mg_a11 b hbb) (ck_in h_65) dX2_go_75 (fun σ_70 H locs e_71 hP => ?_)
          have h_65 := st_k (ck_k h_65) e_71
          refine lv_aload_n hx hb dX2_go_76 rfl (lv_at hl 0 rfl) ?_
          refine r_geta X hP (15 + 17 * b) (mg_c b hbb) lk_2 12 (Nat.le_of_ble_eq_true rfl) q217 (mg_f12 b) dX2_go_77 ?_
          refine lv_iload hx hb dX2_go_80 (lv_at hl 4 rfl) ?_
          refine lv_iconst (v := (0 : Int32)) hx hb dX2_go_82 (by decide) ?_
          refine r_iast X cp_w hP (16 + 17 * b + 12) (mg_a12 b hbb) (ck_in h_65) dX2_go_83 (fun σ_72 H locs e_73 hP => ?_)
          have h_65 := st_k (ck_k h_65) e_73
          refine lv_aload_n hx hb dX2_go_84 rfl (lv_at hl 0 rfl) ?_
          refine r_geta X hP (15 + 17 * b) (mg_c b hbb) lk_2 13 (Nat.le_of_ble_eq_true rfl) q219 (mg_f13 b) dX2_go_85 ?_
          refine lv_iload hx hb dX2_go_88 (lv_at hl 4 rfl) ?_
          refine lv_iconst (v := (-1 : Int32)) hx hb dX2_go_90 (by decide) ?_
          refine r_iast X cp_w hP (16 + 17 * b + 13) (mg_a13 b hbb) (ck_in h_65) dX2_go_91 (fun σ_74 H locs e_75 hP => ?_)
          have h_65 := st_k (ck_k h_65) e_75
          refine lv_iinc (v := (w_63 + (1 : Int32))) (lv' := [(5, .int (w_63 + (1 : Int32))), (0, .ref (G.2.2.1 (15 + 17 * b))), (1, .ref (G.2.2.1 6)), (2, .int a2), (3, .int a3)]) hx hb dX2_go_92 hl (k := 4) rfl rfl (by decide) rfl (fun ls hl => ?_)
          refine lv_goto (tgt := 53) hx hb dX2_go_95 (by decide) ?_
          exact ih _ _ _ _ _ h_65 hP (lv_sub hl [1, 2, 3, 4, 0] rfl)
    exact hL_27 _ _ _ _ _ _ h_29 hP (lv_sub hl [1, 2, 3, 4, 0] rfl)
  have hL_14 : ∀ (n : Nat) (w_76 : Int32) (σ_77 : ST) (H : Heap) (locs : List Loc) (ls : Array Slot), wl2 (mg_go_B29 b a2 a3) n w_76 σ_77 = some σ_15 → PS cp_ft G s σ_77 H locs → lv_has ls 6 [(0, .ref (G.2.2.1 (15 + 17 * b))), (1, .ref (G.2.2.1 6)), (2, .int a2), (3, .int a3), (5, .int w_76)] → W p l e rm_X2_go s m args below meth c H locs 0 0 Q (F0 m 29 ls []) := by
    intro n
    induction n with
    | zero => intro w_76 σ_77 H locs ls h_78; cases h_78
    | succ n ih =>
      intro w_76 σ_77 H locs ls h_78 hP hl
      have h_78 : mg_go_B29 b a2 a3 (wl2 (mg_go_B29 b a2 a3) n) w_76 σ_77 = some _ := h_78
      generalize wl2 (mg_go_B29 b a2 a3) n = rc_79 at h_78 ih
      unfold mg_go_B29 at h_78
      refine lv_iload hx hb dX2_go_29 (lv_at hl 4 rfl) ?_
      refine lv_bipush (v := (6 : Int32)) hx hb dX2_go_31 (by decide) ?_
      refine lv_icmp_ge (tgt := 50) hx hb dX2_go_33 (by decide) (fun c_80 => ?_) (fun c_80 => ?_)
      · have h_78 := it_t h_78 c_80
        obtain rfl := Option.some.inj h_78
        exact hE_17 _ _ _ hP (lv_sub hl [0, 1, 2, 3] rfl)
      · have h_78 := it_f h_78 c_80
        refine lv_aload_n hx hb dX2_go_36 rfl (lv_at hl 0 rfl) ?_
        refine r_geta X hP (15 + 17 * b) (mg_c b hbb) lk_2 0 (Nat.le_of_ble_eq_true rfl) q193 (mg_f0 b) dX2_go_37 ?_
        refine lv_iload hx hb dX2_go_40 (lv_at hl 4 rfl) ?_
        refine lv_iconst (v := (0 : Int32)) hx hb dX2_go_42 (by decide) ?_
        refine r_iast X cp_w hP (16 + 17 * b + 0) (mg_a0 b hbb) (ck_in h_78) dX2_go_43 (fun σ_81 H locs e_82 hP => ?_)
        have h_78 := st_k (ck_k h_78) e_82
        refine lv_iinc (v := (w_76 + (1 : Int32))) (lv' := [(5, .int (w_76 + (1 : Int32))), (0, .ref (G.2.2.1 (15 + 17 * b))), (1, .ref (G.2.2.1 6)), (2, .int a2), (3, .int a3)]) hx hb dX2_go_44 hl (k := 4) rfl rfl (by decide) rfl (fun ls hl => ?_)
        refine lv_goto (tgt := 29) hx hb dX2_go_47 (by decide) ?_
        exact ih _ _ _ _ _ h_78 hP (lv_sub hl [1, 2, 3, 4, 0] rfl)
  exact hL_14 _ _ _ _ _ _ h_16 hP (lv_sub hl [1, 2, 3, 4, 0] rfl)
def mg_sumOf_B15 (b : Nat) (σ : ST) (l1 : Int32) (rc15 : Int32 → Int32 → Option (Int32)) (w2 : Int32) (w3 : Int32) : Option (Int32) :=
  (if (gI σ 0 5) ≤ w3 then some (w2) else ck w3 20 (bo (pgi σ (lR σ 0 2 w3) 6 0) (fun (v_5 : Int32) => bo (if v_5 = l1 then (if (((gI σ (1 + b) 18) >>> (w3 &&& 31)) &&& (1 : Int32)) = (1 : Int32) then ck w3 20 (bo (pgi σ (lR σ 0 2 w3) 6 1) (fun (v_12 : Int32) => some ((w2 + v_12)))) else some (w2)) else some (w2)) (fun (y_6 : Int32) => (rc15 y_6 (w3 + (1 : Int32)))))))
def mg_sumOf (b : Nat) (σ : ST) (a1 : Int32) : Option Int32 :=
  ck a1 6 (bo (pgi σ (lR σ 0 1 a1) 5 0) (fun (v_2 : Int32) => bo (wl2 (mg_sumOf_B15 b σ a1) FU v_2 (0 : Int32)) (fun (o_14 : Int32) => some o_14)))
abbrev rm_X2_sumOf : Room := rmf 0 0
set_option maxHeartbeats 4000000 in
set_option maxRecDepth 100000 in
theorem mt_X2_sumOf (l : Launch) (G : GT) (b : Nat) (hbb : b < 2) (σ : ST) (a1 : Int32) {r : Int32} (h : mg_sumOf b σ a1 = some r) : CI l cp_ft G yX2_sumOf (ws_ yX2_sumOf cX2_sumOf 4 (some .int)) rm_X2_sumOf 0 0 [.ref (G.2.2.1 (15 + 17 * b)), .int a1] σ (r, σ) := by
  refine m_enterI (by decide) rfl (lv := [(0, .ref (G.2.2.1 (15 + 17 * b))), (1, .int a1)]) rfl ?_
  intro p e s m args below meth c H locs ls Q X hret hP hl
  have hx := X.1.1
  have hb := X.1.2.1
  have hown := X.1.2.2.2.1
  have hts := X.1.2.2.2.2
  unfold mg_sumOf at h
  refine lv_aload_n hx hb dX2_sumOf_0 rfl (lv_at hl 0 rfl) ?_
  refine r_geta X hP (15 + 17 * b) (mg_c b hbb) lk_2 21 (Nat.le_of_ble_eq_true rfl) q230 (mg_f21 b) dX2_sumOf_1 ?_
  refine r_getaN X hP 0 cp_c0 lk_0 1 (Nat.le_of_ble_eq_true rfl) q283 cp_f1 dX2_sumOf_4 ?_
  refine lv_iload_n hx hb dX2_sumOf_7 rfl (lv_at hl 1 rfl) ?_
  refine r_aald (t := 1) X hP 2 cp_c2 rfl (ck_in h) dX2_sumOf_8 ?_
  have h := ck_k h
  obtain ⟨v_2, e_1, h⟩ := bo_ex h
  refine r_pgiN (r := (lR σ 0 1 a1)) X hP lk_5 0 (Nat.le_of_ble_eq_true rfl) e_1 q436 dX2_sumOf_9 ?_
  refine lv_istore_n (lv' := [(2, .int v_2), (0, .ref (G.2.2.1 (15 + 17 * b))), (1, .int a1)]) hx hb dX2_sumOf_12 rfl hl (by decide) rfl (fun ls hl => ?_)
  refine lv_iconst (v := (0 : Int32)) hx hb dX2_sumOf_13 (by decide) ?_
  refine lv_istore_n (lv' := [(3, .int (0 : Int32)), (2, .int v_2), (0, .ref (G.2.2.1 (15 + 17 * b))), (1, .int a1)]) hx hb dX2_sumOf_14 rfl hl (by decide) rfl (fun ls hl => ?_)
  obtain ⟨o_14, h_15, h⟩ := bo_ex h
  have hE_16 : ∀ (H : Heap) (locs : List Loc) (ls : Array Slot), PS cp_ft G s σ H locs → lv_has ls 4 [(2, .int o_14)] → W p l e rm_X2_sumOf s m args below meth c H locs 0 0 Q (F0 m 75 ls []) := by
    intro H locs ls hP hl
    refine lv_iload_n hx hb dX2_sumOf_75 rfl (lv_at hl 0 rfl) ?_
    exact hret _ _ _ _ _ _ dX2_sumOf_76 rfl (congrArg (fun z9 => (z9, σ)) (Option.some.inj h)) hP
  have hL_13 : ∀ (n : Nat) (w_17 : Int32) (w_18 : Int32) (H : Heap) (locs : List Loc) (ls : Array Slot), wl2 (mg_sumOf_B15 b σ a1) n w_17 w_18 = some o_14 → PS cp_ft G s σ H locs → lv_has ls 4 [(0, .ref (G.2.2.1 (15 + 17 * b))), (1, .int a1), (2, .int w_17), (3, .int w_18)] → W p l e rm_X2_sumOf s m args below meth c H locs 0 0 Q (F0 m 15 ls []) := by
    intro n
    induction n with
    | zero => intro w_17 w_18 H locs ls h_19; cases h_19
    | succ n ih =>
      intro w_17 w_18 H locs ls h_19 hP hl
      have h_19 : mg_sumOf_B15 b σ a1 (wl2 (mg_sumOf_B15 b σ a1) n) w_17 w_18 = some _ := h_19
      generalize wl2 (mg_sumOf_B15 b σ a1) n = rc_20 at h_19 ih
      unfold mg_sumOf_B15 at h_19
      refine lv_iload_n hx hb dX2_sumOf_15 rfl (lv_at hl 3 rfl) ?_
      refine lv_aload_n hx hb dX2_sumOf_16 rfl (lv_at hl 0 rfl) ?_
      refine r_geta X hP (15 + 17 * b) (mg_c b hbb) lk_2 21 (Nat.le_of_ble_eq_true rfl) q230 (mg_f21 b) dX2_sumOf_17 ?_
      refine r_getiN X hP 0 cp_c0 lk_0 5 (Nat.le_of_ble_eq_true rfl) q290 cp_f5 dX2_sumOf_20 ?_
      refine lv_icmp_ge (tgt := 75) hx hb dX2_sumOf_23 (by decide) (fun c_21 => ?_) (fun c_21 => ?_)
      · have h_19 := it_t h_19 c_21
        obtain rfl := Option.some.inj h_19
        exact hE_16 _ _ _ hP (lv_sub hl [2] rfl)
      · have h_19 := it_f h_19 c_21
        refine lv_aload_n hx hb dX2_sumOf_26 rfl (lv_at hl 0 rfl) ?_
        refine r_geta X hP (15 + 17 * b) (mg_c b hbb) lk_2 21 (Nat.le_of_ble_eq_true rfl) q230 (mg_f21 b) dX2_sumOf_27 ?_
        refine r_getaN X hP 0 cp_c0 lk_0 2 (Nat.le_of_ble_eq_true rfl) q285 cp_f2 dX2_sumOf_30 ?_
        refine lv_iload_n hx hb dX2_sumOf_33 rfl (lv_at hl 3 rfl) ?_
        refine r_aald (t := 2) X hP 3 cp_c3 rfl (ck_in h_19) dX2_sumOf_34 ?_
        have h_19 := ck_k h_19
        obtain ⟨v_23, e_22, h_19⟩ := bo_ex h_19
        refine r_pgiN (r := (lR σ 0 2 w_18)) X hP lk_6 0 (Nat.le_of_ble_eq_true rfl) e_22 q466 dX2_sumOf_35 ?_
        refine lv_iload_n hx hb dX2_sumOf_38 rfl (lv_at hl 1 rfl) ?_
        obtain ⟨y_24, h_25, h_19⟩ := bo_ex h_19
        have hJ_26 : ∀ (H : Heap) (locs : List Loc) (ls : Array Slot), PS cp_ft G s σ H locs → lv_has ls 4 [(0, .ref (G.2.2.1 (15 + 17 * b))), (1, .int a1), (2, .int y_24), (3, .int w_18)] → W p l e rm_X2_sumOf s m args below meth c H locs 0 0 Q (F0 m 69 ls []) := by
          intro H locs ls hP hl
          refine lv_iinc (v := (w_18 + (1 : Int32))) (lv' := [(3, .int (w_18 + (1 : Int32))), (0, .ref (G.2.2.1 (15 + 17 * b))), (1, .int a1), (2, .int y_24)]) hx hb dX2_sumOf_69 hl (k := 3) rfl rfl (by decide) rfl (fun ls hl => ?_)
          refine lv_goto (tgt := 15) hx hb dX2_sumOf_72 (by decide) ?_
          exact ih _ _ _ _ _ h_19 hP (lv_sub hl [1, 2, 3, 0] rfl)
        refine lv_icmp_ne (tgt := 69) hx hb dX2_sumOf_39 (by decide) (fun c_27 => ?_) (fun c_27 => ?_)
        · have h_25 := it_f h_25 c_27
          obtain rfl := Option.some.inj h_25
          exact hJ_26 _ _ _ hP (lv_sub hl [0, 1, 2, 3] rfl)
        · have h_25 := it_t h_25 c_27
          refine lv_aload_n hx hb dX2_sumOf_42 rfl (lv_at hl 0 rfl) ?_
          refine r_geti X hP (15 + 17 * b) (mg_c b hbb) lk_2 18 (Nat.le_of_ble_eq_true rfl) q226 (mg_f18 b) dX2_sumOf_43 ?_
          refine lv_iload_n hx hb dX2_sumOf_46 rfl (lv_at hl 3 rfl) ?_
          refine lv_ishr hx hb dX2_sumOf_47 ?_
          refine lv_iconst (v := (1 : Int32)) hx hb dX2_sumOf_48 (by decide) ?_
          refine lv_iand hx hb dX2_sumOf_49 ?_
          refine lv_iconst (v := (1 : Int32)) hx hb dX2_sumOf_50 (by decide) ?_
          refine lv_icmp_ne (tgt := 69) hx hb dX2_sumOf_51 (by decide) (fun c_28 => ?_) (fun c_28 => ?_)
          · have h_25 := it_f h_25 c_28
            obtain rfl := Option.some.inj h_25
            exact hJ_26 _ _ _ hP (lv_sub hl [0, 1, 2, 3] rfl)
          · have h_25 := it_t h_25 c_28
            refine lv_iload_n hx hb dX2_sumOf_54 rfl (lv_at hl 2 rfl) ?_
            refine lv_aload_n hx hb dX2_sumOf_55 rfl (lv_at hl 0 rfl) ?_
            refine r_geta X hP (15 + 17 * b) (mg_c b hbb) lk_2 21 (Nat.le_of_ble_eq_true rfl) q230 (mg_f21 b) dX2_sumOf_56 ?_
            refine r_getaN X hP 0 cp_c0 lk_0 2 (Nat.le_of_ble_eq_true rfl) q285 cp_f2 dX2_sumOf_59 ?_
            refine lv_iload_n hx hb dX2_sumOf_62 rfl (lv_at hl 3 rfl) ?_
            refine r_aald (t := 2) X hP 3 cp_c3 rfl (ck_in h_25) dX2_sumOf_63 ?_
            have h_25 := ck_k h_25
            obtain ⟨v_30, e_29, h_25⟩ := bo_ex h_25
            refine r_pgiN (r := (lR σ 0 2 w_18)) X hP lk_6 1 (Nat.le_of_ble_eq_true rfl) e_29 q470 dX2_sumOf_64 ?_
            refine lv_iadd hx hb dX2_sumOf_67 ?_
            refine lv_istore_n (lv' := [(2, .int (w_17 + v_30)), (0, .ref (G.2.2.1 (15 + 17 * b))), (1, .int a1), (3, .int w_18)]) hx hb dX2_sumOf_68 rfl hl (by decide) rfl (fun ls hl => ?_)
            obtain rfl := Option.some.inj h_25
            exact hJ_26 _ _ _ hP (lv_sub hl [1, 2, 0, 3] rfl)
  exact hL_13 _ _ _ _ _ _ h_15 hP (lv_sub hl [2, 3, 1, 0] rfl)
def mg_decided_B4 (b : Nat) (σ : ST) (rc4 : Int32 → Int32 → Option (Int32)) (w1 : Int32) (w2 : Int32) : Option (Int32) :=
  (if (gI σ 0 4) ≤ w2 then some (w1) else bo (mg_sumOf b σ w2) (fun (r_3 : Int32) => bo (if r_3 ≤ 0 then some (w1) else some ((w1 ||| ((1 : Int32) <<< (w2 &&& 31))))) (fun (y_4 : Int32) => (rc4 y_4 (w2 + (1 : Int32))))))
def mg_decided (b : Nat) (σ : ST)  : Option Int32 :=
  bo (wl2 (mg_decided_B4 b σ ) FU (0 : Int32) (0 : Int32)) (fun (o_9 : Int32) => some o_9)
abbrev rm_X2_decided : Room := rmf 1 23
set_option maxHeartbeats 4000000 in
set_option maxRecDepth 100000 in
theorem mt_X2_decided (l : Launch) (G : GT) (b : Nat) (hbb : b < 2) (σ : ST)  {r : Int32} (h : mg_decided b σ = some r) : CI l cp_ft G yX2_decided (ws_ yX2_decided cX2_decided 3 (some .int)) rm_X2_decided 0 0 [.ref (G.2.2.1 (15 + 17 * b))] σ (r, σ) := by
  refine m_enterI (by decide) rfl (lv := [(0, .ref (G.2.2.1 (15 + 17 * b)))]) rfl ?_
  intro p e s m args below meth c H locs ls Q X hret hP hl
  have hx := X.1.1
  have hb := X.1.2.1
  have hown := X.1.2.2.2.1
  have hts := X.1.2.2.2.2
  unfold mg_decided at h
  refine lv_iconst (v := (0 : Int32)) hx hb dX2_decided_0 (by decide) ?_
  refine lv_istore_n (lv' := [(1, .int (0 : Int32)), (0, .ref (G.2.2.1 (15 + 17 * b)))]) hx hb dX2_decided_1 rfl hl (by decide) rfl (fun ls hl => ?_)
  refine lv_iconst (v := (0 : Int32)) hx hb dX2_decided_2 (by decide) ?_
  refine lv_istore_n (lv' := [(2, .int (0 : Int32)), (1, .int (0 : Int32)), (0, .ref (G.2.2.1 (15 + 17 * b)))]) hx hb dX2_decided_3 rfl hl (by decide) rfl (fun ls hl => ?_)
  obtain ⟨o_9, h_10, h⟩ := bo_ex h
  have hE_11 : ∀ (H : Heap) (locs : List Loc) (ls : Array Slot), PS cp_ft G s σ H locs → lv_has ls 3 [(1, .int o_9)] → W p l e rm_X2_decided s m args below meth c H locs 0 0 Q (F0 m 35 ls []) := by
    intro H locs ls hP hl
    refine lv_iload_n hx hb dX2_decided_35 rfl (lv_at hl 0 rfl) ?_
    exact hret _ _ _ _ _ _ dX2_decided_36 rfl (congrArg (fun z9 => (z9, σ)) (Option.some.inj h)) hP
  have hL_8 : ∀ (n : Nat) (w_12 : Int32) (w_13 : Int32) (H : Heap) (locs : List Loc) (ls : Array Slot), wl2 (mg_decided_B4 b σ ) n w_12 w_13 = some o_9 → PS cp_ft G s σ H locs → lv_has ls 3 [(0, .ref (G.2.2.1 (15 + 17 * b))), (1, .int w_12), (2, .int w_13)] → W p l e rm_X2_decided s m args below meth c H locs 0 0 Q (F0 m 4 ls []) := by
    intro n
    induction n with
    | zero => intro w_12 w_13 H locs ls h_14; cases h_14
    | succ n ih =>
      intro w_12 w_13 H locs ls h_14 hP hl
      have h_14 : mg_decided_B4 b σ  (wl2 (mg_decided_B4 b σ ) n) w_12 w_13 = some _ := h_14
      generalize wl2 (mg_decided_B4 b σ ) n = rc_15 at h_14 ih
      unfold mg_decided_B4 at h_14
      refine lv_iload_n hx hb dX2_decided_4 rfl (lv_at hl 2 rfl) ?_
      refine lv_aload_n hx hb dX2_decided_5 rfl (lv_at hl 0 rfl) ?_
      refine r_geta X hP (15 + 17 * b) (mg_c b hbb) lk_2 21 (Nat.le_of_ble_eq_true rfl) q230 (mg_f21 b) dX2_decided_6 ?_
      refine r_getiN X hP 0 cp_c0 lk_0 4 (Nat.le_of_ble_eq_true rfl) q288 cp_f4 dX2_decided_9 ?_
      refine lv_icmp_ge (tgt := 35) hx hb dX2_decided_12 (by decide) (fun c_16 => ?_) (fun c_16 => ?_)
      · have h_14 := it_t h_14 c_16
        obtain rfl := Option.some.inj h_14
        exact hE_11 _ _ _ hP (lv_sub hl [1] rfl)
      · have h_14 := it_f h_14 c_16
        refine lv_aload_n hx hb dX2_decided_15 rfl (lv_at hl 0 rfl) ?_
        refine lv_iload_n hx hb dX2_decided_16 rfl (lv_at hl 2 rfl) ?_
        obtain ⟨r_18, e_17, h_14⟩ := bo_ex h_14
        refine r_calli (r_runV (rest := []) X hP (15 + 17 * b) (mg_c b hbb) lk_2 (mt_X2_sumOf l G b hbb σ w_13 e_17) (cwV 1 hts (lw_V q1046 q1047 q1048 q112 q1049) rfl rfl rfl ⟨rfl, cdX2_sumOf⟩ ⟨Nat.le_of_ble_eq_true rfl, Nat.le_of_ble_eq_true rfl⟩) rfl hl.1 rfl (Nat.le_of_ble_eq_true rfl) dX2_decided_17 ⟨Nat.le_refl _, Nat.le_refl _⟩) hP (fun H locs hP => ?_)
        obtain ⟨y_19, h_20, h_14⟩ := bo_ex h_14
        have hJ_21 : ∀ (H : Heap) (locs : List Loc) (ls : Array Slot), PS cp_ft G s σ H locs → lv_has ls 3 [(0, .ref (G.2.2.1 (15 + 17 * b))), (1, .int y_19), (2, .int w_13)] → W p l e rm_X2_decided s m args below meth c H locs 0 0 Q (F0 m 29 ls []) := by
          intro H locs ls hP hl
          refine lv_iinc (v := (w_13 + (1 : Int32))) (lv' := [(2, .int (w_13 + (1 : Int32))), (0, .ref (G.2.2.1 (15 + 17 * b))), (1, .int y_19)]) hx hb dX2_decided_29 hl (k := 2) rfl rfl (by decide) rfl (fun ls hl => ?_)
          refine lv_goto (tgt := 4) hx hb dX2_decided_32 (by decide) ?_
          exact ih _ _ _ _ _ h_14 hP (lv_sub hl [1, 2, 0] rfl)
        refine lv_if_le (tgt := 29) hx hb dX2_decided_20 (by decide) (fun c_22 => ?_) (fun c_22 => ?_)
        · have h_20 := it_t h_20 c_22
          obtain rfl := Option.some.inj h_20
          exact hJ_21 _ _ _ hP (lv_sub hl [0, 1, 2] rfl)
        · have h_20 := it_f h_20 c_22
          refine lv_iload_n hx hb dX2_decided_23 rfl (lv_at hl 1 rfl) ?_
          refine lv_iconst (v := (1 : Int32)) hx hb dX2_decided_24 (by decide) ?_
          refine lv_iload_n hx hb dX2_decided_25 rfl (lv_at hl 2 rfl) ?_
          refine lv_ishl hx hb dX2_decided_26 ?_
          refine lv_ior hx hb dX2_decided_27 ?_
          refine lv_istore_n (lv' := [(1, .int (w_12 ||| ((1 : Int32) <<< (w_13 &&& 31)))), (0, .ref (G.2.2.1 (15 + 17 * b))), (2, .int w_13)]) hx hb dX2_decided_28 rfl hl (by decide) rfl (fun ls hl => ?_)
          obtain rfl := Option.some.inj h_20
          exact hJ_21 _ _ _ hP (lv_sub hl [1, 0, 2] rfl)
  exact hL_8 _ _ _ _ _ _ h_10 hP (lv_sub hl [2, 1, 0] rfl)
def mg_heldBack_B4 (b : Nat) (σ : ST) (rc4 : Int32 → Int32 → Option (Int32)) (w1 : Int32) (w2 : Int32) : Option (Int32) :=
  (if (gI σ 0 5) ≤ w2 then some (w1) else bo (if (((gI σ (1 + b) 18) >>> (w2 &&& 31)) &&& (1 : Int32)) = 0 then ck w2 20 (bo (mg_isKnownHere b σ (lR σ 0 2 w2)) (fun (r_7 : Int32) => (if r_7 = 0 then some (w1) else some ((w1 ||| ((1 : Int32) <<< (w2 &&& 31))))))) else some (w1)) (fun (y_2 : Int32) => (rc4 y_2 (w2 + (1 : Int32)))))
def mg_heldBack (b : Nat) (σ : ST)  : Option Int32 :=
  bo (wl2 (mg_heldBack_B4 b σ ) FU (0 : Int32) (0 : Int32)) (fun (o_10 : Int32) => some o_10)
abbrev rm_X2_heldBack : Room := rmf 2 43
set_option maxHeartbeats 4000000 in
set_option maxRecDepth 100000 in
theorem mt_X2_heldBack (l : Launch) (G : GT) (b : Nat) (hbb : b < 2) (σ : ST)  {r : Int32} (h : mg_heldBack b σ = some r) : CI l cp_ft G yX2_heldBack (ws_ yX2_heldBack cX2_heldBack 3 (some .int)) rm_X2_heldBack 0 0 [.ref (G.2.2.1 (15 + 17 * b))] σ (r, σ) := by
  refine m_enterI (by decide) rfl (lv := [(0, .ref (G.2.2.1 (15 + 17 * b)))]) rfl ?_
  intro p e s m args below meth c H locs ls Q X hret hP hl
  have hx := X.1.1
  have hb := X.1.2.1
  have hown := X.1.2.2.2.1
  have hts := X.1.2.2.2.2
  unfold mg_heldBack at h
  refine lv_iconst (v := (0 : Int32)) hx hb dX2_heldBack_0 (by decide) ?_
  refine lv_istore_n (lv' := [(1, .int (0 : Int32)), (0, .ref (G.2.2.1 (15 + 17 * b)))]) hx hb dX2_heldBack_1 rfl hl (by decide) rfl (fun ls hl => ?_)
  refine lv_iconst (v := (0 : Int32)) hx hb dX2_heldBack_2 (by decide) ?_
  refine lv_istore_n (lv' := [(2, .int (0 : Int32)), (1, .int (0 : Int32)), (0, .ref (G.2.2.1 (15 + 17 * b)))]) hx hb dX2_heldBack_3 rfl hl (by decide) rfl (fun ls hl => ?_)
  obtain ⟨o_10, h_11, h⟩ := bo_ex h
  have hE_12 : ∀ (H : Heap) (locs : List Loc) (ls : Array Slot), PS cp_ft G s σ H locs → lv_has ls 3 [(1, .int o_10)] → W p l e rm_X2_heldBack s m args below meth c H locs 0 0 Q (F0 m 54 ls []) := by
    intro H locs ls hP hl
    refine lv_iload_n hx hb dX2_heldBack_54 rfl (lv_at hl 0 rfl) ?_
    exact hret _ _ _ _ _ _ dX2_heldBack_55 rfl (congrArg (fun z9 => (z9, σ)) (Option.some.inj h)) hP
  have hL_9 : ∀ (n : Nat) (w_13 : Int32) (w_14 : Int32) (H : Heap) (locs : List Loc) (ls : Array Slot), wl2 (mg_heldBack_B4 b σ ) n w_13 w_14 = some o_10 → PS cp_ft G s σ H locs → lv_has ls 3 [(0, .ref (G.2.2.1 (15 + 17 * b))), (1, .int w_13), (2, .int w_14)] → W p l e rm_X2_heldBack s m args below meth c H locs 0 0 Q (F0 m 4 ls []) := by
    intro n
    induction n with
    | zero => intro w_13 w_14 H locs ls h_15; cases h_15
    | succ n ih =>
      intro w_13 w_14 H locs ls h_15 hP hl
      have h_15 : mg_heldBack_B4 b σ  (wl2 (mg_heldBack_B4 b σ ) n) w_13 w_14 = some _ := h_15
      generalize wl2 (mg_heldBack_B4 b σ ) n = rc_16 at h_15 ih
      unfold mg_heldBack_B4 at h_15
      refine lv_iload_n hx hb dX2_heldBack_4 rfl (lv_at hl 2 rfl) ?_
      refine lv_aload_n hx hb dX2_heldBack_5 rfl (lv_at hl 0 rfl) ?_
      refine r_geta X hP (15 + 17 * b) (mg_c b hbb) lk_2 21 (Nat.le_of_ble_eq_true rfl) q230 (mg_f21 b) dX2_heldBack_6 ?_
      refine r_getiN X hP 0 cp_c0 lk_0 5 (Nat.le_of_ble_eq_true rfl) q290 cp_f5 dX2_heldBack_9 ?_
      refine lv_icmp_ge (tgt := 54) hx hb dX2_heldBack_12 (by decide) (fun c_17 => ?_) (fun c_17 => ?_)
      · have h_15 := it_t h_15 c_17
        obtain rfl := Option.some.inj h_15
        exact hE_12 _ _ _ hP (lv_sub hl [1] rfl)
      · have h_15 := it_f h_15 c_17
        refine lv_aload_n hx hb dX2_heldBack_15 rfl (lv_at hl 0 rfl) ?_
        refine r_geti X hP (15 + 17 * b) (mg_c b hbb) lk_2 18 (Nat.le_of_ble_eq_true rfl) q226 (mg_f18 b) dX2_heldBack_16 ?_
        refine lv_iload_n hx hb dX2_heldBack_19 rfl (lv_at hl 2 rfl) ?_
        refine lv_ishr hx hb dX2_heldBack_20 ?_
        refine lv_iconst (v := (1 : Int32)) hx hb dX2_heldBack_21 (by decide) ?_
        refine lv_iand hx hb dX2_heldBack_22 ?_
        obtain ⟨y_18, h_19, h_15⟩ := bo_ex h_15
        have hJ_20 : ∀ (H : Heap) (locs : List Loc) (ls : Array Slot), PS cp_ft G s σ H locs → lv_has ls 3 [(0, .ref (G.2.2.1 (15 + 17 * b))), (1, .int y_18), (2, .int w_14)] → W p l e rm_X2_heldBack s m args below meth c H locs 0 0 Q (F0 m 48 ls []) := by
          intro H locs ls hP hl
          refine lv_iinc (v := (w_14 + (1 : Int32))) (lv' := [(2, .int (w_14 + (1 : Int32))), (0, .ref (G.2.2.1 (15 + 17 * b))), (1, .int y_18)]) hx hb dX2_heldBack_48 hl (k := 2) rfl rfl (by decide) rfl (fun ls hl => ?_)
          refine lv_goto (tgt := 4) hx hb dX2_heldBack_51 (by decide) ?_
          exact ih _ _ _ _ _ h_15 hP (lv_sub hl [1, 2, 0] rfl)
        refine lv_if_ne (tgt := 48) hx hb dX2_heldBack_23 (by decide) (fun c_21 => ?_) (fun c_21 => ?_)
        · have h_19 := it_f h_19 c_21
          obtain rfl := Option.some.inj h_19
          exact hJ_20 _ _ _ hP (lv_sub hl [0, 1, 2] rfl)
        · have h_19 := it_t h_19 c_21
          refine lv_aload_n hx hb dX2_heldBack_26 rfl (lv_at hl 0 rfl) ?_
          refine lv_aload_n hx hb dX2_heldBack_27 rfl (lv_at hl 0 rfl) ?_
          refine r_geta X hP (15 + 17 * b) (mg_c b hbb) lk_2 21 (Nat.le_of_ble_eq_true rfl) q230 (mg_f21 b) dX2_heldBack_28 ?_
          refine r_getaN X hP 0 cp_c0 lk_0 2 (Nat.le_of_ble_eq_true rfl) q285 cp_f2 dX2_heldBack_31 ?_
          refine lv_iload_n hx hb dX2_heldBack_34 rfl (lv_at hl 2 rfl) ?_
          refine r_aald (t := 2) X hP 3 cp_c3 rfl (ck_in h_19) dX2_heldBack_35 ?_
          have h_19 := ck_k h_19
          obtain ⟨r_23, e_22, h_19⟩ := bo_ex h_19
          refine r_calli (r_runV (rest := []) X hP (15 + 17 * b) (mg_c b hbb) lk_2 (mt_X2_isKnownHere l G b hbb σ (lR σ 0 2 w_14) e_22) (cwV 1 hts (lw_V q952 q954 qs25 q112 q955) rfl rfl rfl ⟨rfl, cdX2_isKnownHere⟩ ⟨Nat.le_of_ble_eq_true rfl, Nat.le_of_ble_eq_true rfl⟩) rfl hl.1 rfl (Nat.le_of_ble_eq_true rfl) dX2_heldBack_36 ⟨Nat.le_refl _, Nat.le_refl _⟩) hP (fun H locs hP => ?_)
          refine lv_if_eq (tgt := 48) hx hb dX2_heldBack_39 (by decide) (fun c_24 => ?_) (fun c_24 => ?_)
          · have h_19 := it_t h_19 c_24
            obtain rfl := Option.some.inj h_19
            exact hJ_20 _ _ _ hP (lv_sub hl [0, 1, 2] rfl)
          · have h_19 := it_f h_19 c_24
            refine lv_iload_n hx hb dX2_heldBack_42 rfl (lv_at hl 1 rfl) ?_
            refine lv_iconst (v := (1 : Int32)) hx hb dX2_heldBack_43 (by decide) ?_
            refine lv_iload_n hx hb dX2_heldBack_44 rfl (lv_at hl 2 rfl) ?_
            refine lv_ishl hx hb dX2_heldBack_45 ?_
            refine lv_ior hx hb dX2_heldBack_46 ?_
            refine lv_istore_n (lv' := [(1, .int (w_13 ||| ((1 : Int32) <<< (w_14 &&& 31)))), (0, .ref (G.2.2.1 (15 + 17 * b))), (2, .int w_14)]) hx hb dX2_heldBack_47 rfl hl (by decide) rfl (fun ls hl => ?_)
            obtain rfl := Option.some.inj h_19
            exact hJ_20 _ _ _ hP (lv_sub hl [1, 0, 2] rfl)
  exact hL_9 _ _ _ _ _ _ h_11 hP (lv_sub hl [2, 1, 0] rfl)
def cp_isKnown (σ : ST) (a1 : Option Nat) : Option Int32 :=
  bo (pgi σ a1 6 2) (fun (v_2 : Int32) => (if (v_2 &&& (((1 : Int32) <<< ((gI σ 0 3) &&& 31)) - (1 : Int32))) = 0 then some (0 : Int32) else some (1 : Int32)))
abbrev rm_X0_isKnown : Room := rmf 0 0
set_option maxHeartbeats 4000000 in
set_option maxRecDepth 100000 in
theorem mt_X0_isKnown (l : Launch) (G : GT) (σ : ST) (a1 : Option Nat) {r : Int32} (h : cp_isKnown σ a1 = some r) : CI l cp_ft G yX0_isKnown (ws_ yX0_isKnown cX0_isKnown 2 (some .boolean)) rm_X0_isKnown 0 0 [.ref (G.2.2.1 0), va_rf a1] σ (r, σ) := by
  refine m_enterI (by decide) (by cases a1 <;> rfl) (lv := [(0, .ref (G.2.2.1 0)), (1, va_rf a1)]) (by cases a1 <;> rfl) ?_
  intro p e s m args below meth c H locs ls Q X hret hP hl
  have hx := X.1.1
  have hb := X.1.2.1
  have hown := X.1.2.2.2.1
  have hts := X.1.2.2.2.2
  unfold cp_isKnown at h
  refine rr_aload_n hx hb dX0_isKnown_0 rfl (lv_at hl 1 rfl) ?_
  obtain ⟨v_2, e_1, h⟩ := bo_ex h
  refine r_pgiN (r := a1) X hP lk_6 2 (Nat.le_of_ble_eq_true rfl) e_1 q472 dX0_isKnown_1 ?_
  refine lv_iconst (v := (1 : Int32)) hx hb dX0_isKnown_4 (by decide) ?_
  refine lv_aload_n hx hb dX0_isKnown_5 rfl (lv_at hl 0 rfl) ?_
  refine r_geti X hP 0 cp_c0 lk_0 3 (Nat.le_of_ble_eq_true rfl) q286 cp_f3 dX0_isKnown_6 ?_
  refine lv_ishl hx hb dX0_isKnown_9 ?_
  refine lv_iconst (v := (1 : Int32)) hx hb dX0_isKnown_10 (by decide) ?_
  refine lv_isub hx hb dX0_isKnown_11 ?_
  refine lv_iand hx hb dX0_isKnown_12 ?_
  refine lv_if_eq (tgt := 20) hx hb dX0_isKnown_13 (by decide) (fun c_3 => ?_) (fun c_3 => ?_)
  · have h := it_t h c_3
    refine lv_iconst (v := (0 : Int32)) hx hb dX0_isKnown_20 (by decide) ?_
    exact hret _ _ _ _ _ _ dX0_isKnown_21 rfl (congrArg (fun z9 => (z9, σ)) (Option.some.inj h)) hP
  · have h := it_f h c_3
    refine lv_iconst (v := (1 : Int32)) hx hb dX0_isKnown_16 (by decide) ?_
    refine lv_goto (tgt := 21) hx hb dX0_isKnown_17 (by decide) ?_
    exact hret _ _ _ _ _ _ dX0_isKnown_21 rfl (congrArg (fun z9 => (z9, σ)) (Option.some.inj h)) hP
def cp_byAll_B25 (σ : ST) (l1 : Int32) (l2 : Int32) (rc25 : Int32 → Int32 → Option (Int32)) (w3 : Int32) (w4 : Int32) : Option (Int32) :=
  (if (gI σ 0 5) ≤ w4 then some (w3) else ck w4 20 (bo (pgi σ (lR σ 0 2 w4) 6 0) (fun (v_6 : Int32) => bo (if v_6 = l2 then ck w4 20 (bo (cp_isKnown σ (lR σ 0 2 w4)) (fun (r_12 : Int32) => (if r_12 = 0 then some (w3) else ck w4 20 (bo (pgi σ (lR σ 0 2 w4) 6 1) (fun (v_15 : Int32) => some ((w3 + v_15))))))) else some (w3)) (fun (y_7 : Int32) => (rc25 y_7 (w4 + (1 : Int32)))))))
def cp_byAll_B4 (σ : ST) (rc4 : Int32 → Int32 → Option (Int32)) (w1 : Int32) (w2 : Int32) : Option (Int32) :=
  (if (gI σ 0 4) ≤ w2 then some (w1) else ck w2 6 (bo (pgi σ (lR σ 0 1 w2) 5 0) (fun (v_3 : Int32) => bo (wl2 (cp_byAll_B25 σ w1 w2) FU v_3 (0 : Int32)) (fun (o_17 : Int32) => bo (if o_17 ≤ 0 then some (w1) else some ((w1 ||| ((1 : Int32) <<< (w2 &&& 31))))) (fun (y_20 : Int32) => (rc4 y_20 (w2 + (1 : Int32))))))))
def cp_byAll (σ : ST)  : Option Int32 :=
  bo (wl2 (cp_byAll_B4 σ ) FU (0 : Int32) (0 : Int32)) (fun (o_41 : Int32) => some o_41)
abbrev rm_X0_byAll : Room := rmf 1 21
set_option maxHeartbeats 4000000 in
set_option maxRecDepth 100000 in
theorem mt_X0_byAll (l : Launch) (G : GT) (σ : ST)  {r : Int32} (h : cp_byAll σ = some r) : CI l cp_ft G yX0_byAll (ws_ yX0_byAll cX0_byAll 5 (some .int)) rm_X0_byAll 0 0 [.ref (G.2.2.1 0)] σ (r, σ) := by
  refine m_enterI (by decide) rfl (lv := [(0, .ref (G.2.2.1 0))]) rfl ?_
  intro p e s m args below meth c H locs ls Q X hret hP hl
  have hx := X.1.1
  have hb := X.1.2.1
  have hown := X.1.2.2.2.1
  have hts := X.1.2.2.2.2
  unfold cp_byAll at h
  refine lv_iconst (v := (0 : Int32)) hx hb dX0_byAll_0 (by decide) ?_
  refine lv_istore_n (lv' := [(1, .int (0 : Int32)), (0, .ref (G.2.2.1 0))]) hx hb dX0_byAll_1 rfl hl (by decide) rfl (fun ls hl => ?_)
  refine lv_iconst (v := (0 : Int32)) hx hb dX0_byAll_2 (by decide) ?_
  refine lv_istore_n (lv' := [(2, .int (0 : Int32)), (1, .int (0 : Int32)), (0, .ref (G.2.2.1 0))]) hx hb dX0_byAll_3 rfl hl (by decide) rfl (fun ls hl => ?_)
  obtain ⟨o_41, h_42, h⟩ := bo_ex h
  have hE_43 : ∀ (H : Heap) (locs : List Loc) (ls : Array Slot), PS cp_ft G s σ H locs → lv_has ls 5 [(1, .int o_41)] → W p l e rm_X0_byAll s m args below meth c H locs 0 0 Q (F0 m 97 ls []) := by
    intro H locs ls hP hl
    refine lv_iload_n hx hb dX0_byAll_97 rfl (lv_at hl 0 rfl) ?_
    exact hret _ _ _ _ _ _ dX0_byAll_98 rfl (congrArg (fun z9 => (z9, σ)) (Option.some.inj h)) hP
  have hL_40 : ∀ (n : Nat) (w_44 : Int32) (w_45 : Int32) (H : Heap) (locs : List Loc) (ls : Array Slot), wl2 (cp_byAll_B4 σ ) n w_44 w_45 = some o_41 → PS cp_ft G s σ H locs → lv_has ls 5 [(0, .ref (G.2.2.1 0)), (1, .int w_44), (2, .int w_45)] → W p l e rm_X0_byAll s m args below meth c H locs 0 0 Q (F0 m 4 ls []) := by
    intro n
    induction n with
    | zero => intro w_44 w_45 H locs ls h_46; cases h_46
    | succ n ih =>
      intro w_44 w_45 H locs ls h_46 hP hl
      have h_46 : cp_byAll_B4 σ  (wl2 (cp_byAll_B4 σ ) n) w_44 w_45 = some _ := h_46
      generalize wl2 (cp_byAll_B4 σ ) n = rc_47 at h_46 ih
      unfold cp_byAll_B4 at h_46
      refine lv_iload_n hx hb dX0_byAll_4 rfl (lv_at hl 2 rfl) ?_
      refine lv_aload_n hx hb dX0_byAll_5 rfl (lv_at hl 0 rfl) ?_
      refine r_geti X hP 0 cp_c0 lk_0 4 (Nat.le_of_ble_eq_true rfl) q289 cp_f4 dX0_byAll_6 ?_
      refine lv_icmp_ge (tgt := 97) hx hb dX0_byAll_9 (by decide) (fun c_48 => ?_) (fun c_48 => ?_)
      · have h_46 := it_t h_46 c_48
        obtain rfl := Option.some.inj h_46
        exact hE_43 _ _ _ hP (lv_sub hl [1] rfl)
      · have h_46 := it_f h_46 c_48
        refine lv_aload_n hx hb dX0_byAll_12 rfl (lv_at hl 0 rfl) ?_
        refine r_geta X hP 0 cp_c0 lk_0 1 (Nat.le_of_ble_eq_true rfl) q282 cp_f1 dX0_byAll_13 ?_
        refine lv_iload_n hx hb dX0_byAll_16 rfl (lv_at hl 2 rfl) ?_
        refine r_aald (t := 1) X hP 2 cp_c2 rfl (ck_in h_46) dX0_byAll_17 ?_
        have h_46 := ck_k h_46
        obtain ⟨v_50, e_49, h_46⟩ := bo_ex h_46
        refine r_pgiN (r := (lR σ 0 1 w_45)) X hP lk_5 0 (Nat.le_of_ble_eq_true rfl) e_49 q435 dX0_byAll_18 ?_
        refine lv_istore_n (lv' := [(3, .int v_50), (0, .ref (G.2.2.1 0)), (1, .int w_44), (2, .int w_45)]) hx hb dX0_byAll_21 rfl hl (by decide) rfl (fun ls hl => ?_)
        refine lv_iconst (v := (0 : Int32)) hx hb dX0_byAll_22 (by decide) ?_
        refine lv_istore (lv' := [(4, .int (0 : Int32)), (3, .int v_50), (0, .ref (G.2.2.1 0)), (1, .int w_44), (2, .int w_45)]) hx hb dX0_byAll_23 hl (by decide) rfl (fun ls hl => ?_)
        obtain ⟨o_52, h_53, h_46⟩ := bo_ex h_46
        have hE_54 : ∀ (H : Heap) (locs : List Loc) (ls : Array Slot), PS cp_ft G s σ H locs → lv_has ls 5 [(0, .ref (G.2.2.1 0)), (1, .int w_44), (2, .int w_45), (3, .int o_52)] → W p l e rm_X0_byAll s m args below meth c H locs 0 0 Q (F0 m 81 ls []) := by
          intro H locs ls hP hl
          refine lv_iload_n hx hb dX0_byAll_81 rfl (lv_at hl 3 rfl) ?_
          obtain ⟨y_55, h_56, h_46⟩ := bo_ex h_46
          have hJ_57 : ∀ (H : Heap) (locs : List Loc) (ls : Array Slot), PS cp_ft G s σ H locs → lv_has ls 5 [(0, .ref (G.2.2.1 0)), (1, .int y_55), (2, .int w_45)] → W p l e rm_X0_byAll s m args below meth c H locs 0 0 Q (F0 m 91 ls []) := by
            intro H locs ls hP hl
            refine lv_iinc (v := (w_45 + (1 : Int32))) (lv' := [(2, .int (w_45 + (1 : Int32))), (0, .ref (G.2.2.1 0)), (1, .int y_55)]) hx hb dX0_byAll_91 hl (k := 2) rfl rfl (by decide) rfl (fun ls hl => ?_)
            refine lv_goto (tgt := 4) hx hb dX0_byAll_94 (by decide) ?_
            exact ih _ _ _ _ _ h_46 hP (lv_sub hl [1, 2, 0] rfl)
          refine lv_if_le (tgt := 91) hx hb dX0_byAll_82 (by decide) (fun c_58 => ?_) (fun c_58 => ?_)
          · have h_56 := it_t h_56 c_58
            obtain rfl := Option.some.inj h_56
            exact hJ_57 _ _ _ hP (lv_sub hl [0, 1, 2] rfl)
          · have h_56 := it_f h_56 c_58
            refine lv_iload_n hx hb dX0_byAll_85 rfl (lv_at hl 1 rfl) ?_
            refine lv_iconst (v := (1 : Int32)) hx hb dX0_byAll_86 (by decide) ?_
            refine lv_iload_n hx hb dX0_byAll_87 rfl (lv_at hl 2 rfl) ?_
            refine lv_ishl hx hb dX0_byAll_88 ?_
            refine lv_ior hx hb dX0_byAll_89 ?_
            refine lv_istore_n (lv' := [(1, .int (w_44 ||| ((1 : Int32) <<< (w_45 &&& 31)))), (0, .ref (G.2.2.1 0)), (2, .int w_45), (3, .int o_52)]) hx hb dX0_byAll_90 rfl hl (by decide) rfl (fun ls hl => ?_)
            obtain rfl := Option.some.inj h_56
            exact hJ_57 _ _ _ hP (lv_sub hl [1, 0, 2] rfl)
        have hL_51 : ∀ (n : Nat) (w_59 : Int32) (w_60 : Int32) (H : Heap) (locs : List Loc) (ls : Array Slot), wl2 (cp_byAll_B25 σ w_44 w_45) n w_59 w_60 = some o_52 → PS cp_ft G s σ H locs → lv_has ls 5 [(0, .ref (G.2.2.1 0)), (1, .int w_44), (2, .int w_45), (3, .int w_59), (4, .int w_60)] → W p l e rm_X0_byAll s m args below meth c H locs 0 0 Q (F0 m 25 ls []) := by
          intro n
          induction n with
          | zero => intro w_59 w_60 H locs ls h_61; cases h_61
          | succ n ih =>
            intro w_59 w_60 H locs ls h_61 hP hl
            have h_61 : cp_byAll_B25 σ w_44 w_45 (wl2 (cp_byAll_B25 σ w_44 w_45) n) w_59 w_60 = some _ := h_61
            generalize wl2 (cp_byAll_B25 σ w_44 w_45) n = rc_62 at h_61 ih
            unfold cp_byAll_B25 at h_61
            refine lv_iload hx hb dX0_byAll_25 (lv_at hl 4 rfl) ?_
            refine lv_aload_n hx hb dX0_byAll_27 rfl (lv_at hl 0 rfl) ?_
            refine r_geti X hP 0 cp_c0 lk_0 5 (Nat.le_of_ble_eq_true rfl) q291 cp_f5 dX0_byAll_28 ?_
            refine lv_icmp_ge (tgt := 81) hx hb dX0_byAll_31 (by decide) (fun c_63 => ?_) (fun c_63 => ?_)
            · have h_61 := it_t h_61 c_63
              obtain rfl := Option.some.inj h_61
              exact hE_54 _ _ _ hP (lv_sub hl [0, 1, 2, 3] rfl)
            · have h_61 := it_f h_61 c_63
              refine lv_aload_n hx hb dX0_byAll_34 rfl (lv_at hl 0 rfl) ?_
              refine r_geta X hP 0 cp_c0 lk_0 2 (Nat.le_of_ble_eq_true rfl) q284 cp_f2 dX0_byAll_35 ?_
              refine lv_iload hx hb dX0_byAll_38 (lv_at hl 4 rfl) ?_
              refine r_aald (t := 2) X hP 3 cp_c3 rfl (ck_in h_61) dX0_byAll_40 ?_
              have h_61 := ck_k h_61
              obtain ⟨v_65, e_64, h_61⟩ := bo_ex h_61
              refine r_pgiN (r := (lR σ 0 2 w_60)) X hP lk_6 0 (Nat.le_of_ble_eq_true rfl) e_64 q467 dX0_byAll_41 ?_
              refine lv_iload_n hx hb dX0_byAll_44 rfl (lv_at hl 2 rfl) ?_
              obtain ⟨y_66, h_67, h_61⟩ := bo_ex h_61
              have hJ_68 : ∀ (H : Heap) (locs : List Loc) (ls : Array Slot), PS cp_ft G s σ H locs → lv_has ls 5 [(0, .ref (G.2.2.1 0)), (1, .int w_44), (2, .int w_45), (3, .int y_66), (4, .int w_60)] → W p l e rm_X0_byAll s m args below meth c H locs 0 0 Q (F0 m 75 ls []) := by
                intro H locs ls hP hl
                refine lv_iinc (v := (w_60 + (1 : Int32))) (lv' := [(4, .int (w_60 + (1 : Int32))), (0, .ref (G.2.2.1 0)), (1, .int w_44), (2, .int w_45), (3, .int y_66)]) hx hb dX0_byAll_75 hl (k := 4) rfl rfl (by decide) rfl (fun ls hl => ?_)
                refine lv_goto (tgt := 25) hx hb dX0_byAll_78 (by decide) ?_
                exact ih _ _ _ _ _ h_61 hP (lv_sub hl [1, 2, 3, 4, 0] rfl)
              refine lv_icmp_ne (tgt := 75) hx hb dX0_byAll_45 (by decide) (fun c_69 => ?_) (fun c_69 => ?_)
              · have h_67 := it_f h_67 c_69
                obtain rfl := Option.some.inj h_67
                exact hJ_68 _ _ _ hP (lv_sub hl [0, 1, 2, 3, 4] rfl)
              · have h_67 := it_t h_67 c_69
                refine lv_aload_n hx hb dX0_byAll_48 rfl (lv_at hl 0 rfl) ?_
                refine lv_aload_n hx hb dX0_byAll_49 rfl (lv_at hl 0 rfl) ?_
                refine r_geta X hP 0 cp_c0 lk_0 2 (Nat.le_of_ble_eq_true rfl) q284 cp_f2 dX0_byAll_50 ?_
                refine lv_iload hx hb dX0_byAll_53 (lv_at hl 4 rfl) ?_
                refine r_aald (t := 2) X hP 3 cp_c3 rfl (ck_in h_67) dX0_byAll_55 ?_
                have h_67 := ck_k h_67
                obtain ⟨r_71, e_70, h_67⟩ := bo_ex h_67
                refine r_calli (r_runV (rest := []) X hP 0 cp_c0 lk_0 (mt_X0_isKnown l G σ (lR σ 0 2 w_60) e_70) (cwV 1 hts (lw_V q1058 q1060 qs39 q110 q1061) rfl rfl rfl ⟨rfl, cdX0_isKnown⟩ ⟨Nat.le_of_ble_eq_true rfl, Nat.le_of_ble_eq_true rfl⟩) rfl hl.1 rfl (Nat.le_of_ble_eq_true rfl) dX0_byAll_56 ⟨Nat.le_refl _, Nat.le_refl _⟩) hP (fun H locs hP => ?_)
                refine lv_if_eq (tgt := 75) hx hb dX0_byAll_59 (by decide) (fun c_72 => ?_) (fun c_72 => ?_)
                · have h_67 := it_t h_67 c_72
                  obtain rfl := Option.some.inj h_67
                  exact hJ_68 _ _ _ hP (lv_sub hl [0, 1, 2, 3, 4] rfl)
                · have h_67 := it_f h_67 c_72
                  refine lv_iload_n hx hb dX0_byAll_62 rfl (lv_at hl 3 rfl) ?_
                  refine lv_aload_n hx hb dX0_byAll_63 rfl (lv_at hl 0 rfl) ?_
                  refine r_geta X hP 0 cp_c0 lk_0 2 (Nat.le_of_ble_eq_true rfl) q284 cp_f2 dX0_byAll_64 ?_
                  refine lv_iload hx hb dX0_byAll_67 (lv_at hl 4 rfl) ?_
                  refine r_aald (t := 2) X hP 3 cp_c3 rfl (ck_in h_67) dX0_byAll_69 ?_
                  have h_67 := ck_k h_67
                  obtain ⟨v_74, e_73, h_67⟩ := bo_ex h_67
                  refine r_pgiN (r := (lR σ 0 2 w_60)) X hP lk_6 1 (Nat.le_of_ble_eq_true rfl) e_73 q469 dX0_byAll_70 ?_
                  refine lv_iadd hx hb dX0_byAll_73 ?_
                  refine lv_istore_n (lv' := [(3, .int (w_59 + v_74)), (0, .ref (G.2.2.1 0)), (1, .int w_44), (2, .int w_45), (4, .int w_60)]) hx hb dX0_byAll_74 rfl hl (by decide) rfl (fun ls hl => ?_)
                  obtain rfl := Option.some.inj h_67
                  exact hJ_68 _ _ _ hP (lv_sub hl [1, 2, 3, 0, 4] rfl)
        exact hL_51 _ _ _ _ _ _ h_53 hP (lv_sub hl [2, 3, 4, 1, 0] rfl)
  exact hL_40 _ _ _ _ _ _ h_42 hP (lv_sub hl [2, 1, 0] rfl)
def ig_bitCount (a0 : Int32) : Option Int32 :=
  some ((((((((a0 - (((a0).toUInt32 >>> (((1 : Int32)).toUInt32 &&& Int32.toUInt32 31)).toInt32 &&& (1431655765 : Int32))) &&& (858993459 : Int32)) + ((((a0 - (((a0).toUInt32 >>> (((1 : Int32)).toUInt32 &&& Int32.toUInt32 31)).toInt32 &&& (1431655765 : Int32)))).toUInt32 >>> (((2 : Int32)).toUInt32 &&& Int32.toUInt32 31)).toInt32 &&& (858993459 : Int32))) + (((((a0 - (((a0).toUInt32 >>> (((1 : Int32)).toUInt32 &&& Int32.toUInt32 31)).toInt32 &&& (1431655765 : Int32))) &&& (858993459 : Int32)) + ((((a0 - (((a0).toUInt32 >>> (((1 : Int32)).toUInt32 &&& Int32.toUInt32 31)).toInt32 &&& (1431655765 : Int32)))).toUInt32 >>> (((2 : Int32)).toUInt32 &&& Int32.toUInt32 31)).toInt32 &&& (858993459 : Int32)))).toUInt32 >>> (((4 : Int32)).toUInt32 &&& Int32.toUInt32 31)).toInt32) &&& (252645135 : Int32)) + (((((((a0 - (((a0).toUInt32 >>> (((1 : Int32)).toUInt32 &&& Int32.toUInt32 31)).toInt32 &&& (1431655765 : Int32))) &&& (858993459 : Int32)) + ((((a0 - (((a0).toUInt32 >>> (((1 : Int32)).toUInt32 &&& Int32.toUInt32 31)).toInt32 &&& (1431655765 : Int32)))).toUInt32 >>> (((2 : Int32)).toUInt32 &&& Int32.toUInt32 31)).toInt32 &&& (858993459 : Int32))) + (((((a0 - (((a0).toUInt32 >>> (((1 : Int32)).toUInt32 &&& Int32.toUInt32 31)).toInt32 &&& (1431655765 : Int32))) &&& (858993459 : Int32)) + ((((a0 - (((a0).toUInt32 >>> (((1 : Int32)).toUInt32 &&& Int32.toUInt32 31)).toInt32 &&& (1431655765 : Int32)))).toUInt32 >>> (((2 : Int32)).toUInt32 &&& Int32.toUInt32 31)).toInt32 &&& (858993459 : Int32)))).toUInt32 >>> (((4 : Int32)).toUInt32 &&& Int32.toUInt32 31)).toInt32) &&& (252645135 : Int32))).toUInt32 >>> (((8 : Int32)).toUInt32 &&& Int32.toUInt32 31)).toInt32) + ((((((((a0 - (((a0).toUInt32 >>> (((1 : Int32)).toUInt32 &&& Int32.toUInt32 31)).toInt32 &&& (1431655765 : Int32))) &&& (858993459 : Int32)) + ((((a0 - (((a0).toUInt32 >>> (((1 : Int32)).toUInt32 &&& Int32.toUInt32 31)).toInt32 &&& (1431655765 : Int32)))).toUInt32 >>> (((2 : Int32)).toUInt32 &&& Int32.toUInt32 31)).toInt32 &&& (858993459 : Int32))) + (((((a0 - (((a0).toUInt32 >>> (((1 : Int32)).toUInt32 &&& Int32.toUInt32 31)).toInt32 &&& (1431655765 : Int32))) &&& (858993459 : Int32)) + ((((a0 - (((a0).toUInt32 >>> (((1 : Int32)).toUInt32 &&& Int32.toUInt32 31)).toInt32 &&& (1431655765 : Int32)))).toUInt32 >>> (((2 : Int32)).toUInt32 &&& Int32.toUInt32 31)).toInt32 &&& (858993459 : Int32)))).toUInt32 >>> (((4 : Int32)).toUInt32 &&& Int32.toUInt32 31)).toInt32) &&& (252645135 : Int32)) + (((((((a0 - (((a0).toUInt32 >>> (((1 : Int32)).toUInt32 &&& Int32.toUInt32 31)).toInt32 &&& (1431655765 : Int32))) &&& (858993459 : Int32)) + ((((a0 - (((a0).toUInt32 >>> (((1 : Int32)).toUInt32 &&& Int32.toUInt32 31)).toInt32 &&& (1431655765 : Int32)))).toUInt32 >>> (((2 : Int32)).toUInt32 &&& Int32.toUInt32 31)).toInt32 &&& (858993459 : Int32))) + (((((a0 - (((a0).toUInt32 >>> (((1 : Int32)).toUInt32 &&& Int32.toUInt32 31)).toInt32 &&& (1431655765 : Int32))) &&& (858993459 : Int32)) + ((((a0 - (((a0).toUInt32 >>> (((1 : Int32)).toUInt32 &&& Int32.toUInt32 31)).toInt32 &&& (1431655765 : Int32)))).toUInt32 >>> (((2 : Int32)).toUInt32 &&& Int32.toUInt32 31)).toInt32 &&& (858993459 : Int32)))).toUInt32 >>> (((4 : Int32)).toUInt32 &&& Int32.toUInt32 31)).toInt32) &&& (252645135 : Int32))).toUInt32 >>> (((8 : Int32)).toUInt32 &&& Int32.toUInt32 31)).toInt32)).toUInt32 >>> (((16 : Int32)).toUInt32 &&& Int32.toUInt32 31)).toInt32) &&& (63 : Int32))
abbrev rm_J13_bitCount : Room := rmf 0 0
set_option maxHeartbeats 4000000 in
set_option maxRecDepth 100000 in
theorem mt_J13_bitCount (l : Launch) (G : GT) (σ : ST) (a0 : Int32) {r : Int32} (h : ig_bitCount a0 = some r) : CI l cp_ft G yJ13_bitCount (ws_ yJ13_bitCount cJ13_bitCount 1 (some .int)) rm_J13_bitCount 0 0 [.int a0] σ (r, σ) := by
  refine m_enterI (by decide) rfl (lv := [(0, .int a0)]) rfl ?_
  intro p e s m args below meth c H locs ls Q X hret hP hl
  have hx := X.1.1
  have hb := X.1.2.1
  have hown := X.1.2.2.2.1
  have hts := X.1.2.2.2.2
  unfold ig_bitCount at h
  refine lv_iload_n hx hb dJ13_bitCount_0 rfl (lv_at hl 0 rfl) ?_
  refine lv_iload_n hx hb dJ13_bitCount_1 rfl (lv_at hl 0 rfl) ?_
  refine lv_iconst (v := (1 : Int32)) hx hb dJ13_bitCount_2 (by decide) ?_
  refine lv_iushr hx hb dJ13_bitCount_3 rfl ?_
  refine lv_ldcw hx hb hown (hts _ q1069) dJ13_bitCount_4 ?_
  refine lv_iand hx hb dJ13_bitCount_7 ?_
  refine lv_isub hx hb dJ13_bitCount_8 ?_
  refine lv_istore_n (lv' := [(0, .int (a0 - (((a0).toUInt32 >>> (((1 : Int32)).toUInt32 &&& Int32.toUInt32 31)).toInt32 &&& (1431655765 : Int32))))]) hx hb dJ13_bitCount_9 rfl hl (by decide) rfl (fun ls hl => ?_)
  refine lv_iload_n hx hb dJ13_bitCount_10 rfl (lv_at hl 0 rfl) ?_
  refine lv_ldcw hx hb hown (hts _ q1070) dJ13_bitCount_11 ?_
  refine lv_iand hx hb dJ13_bitCount_14 ?_
  refine lv_iload_n hx hb dJ13_bitCount_15 rfl (lv_at hl 0 rfl) ?_
  refine lv_iconst (v := (2 : Int32)) hx hb dJ13_bitCount_16 (by decide) ?_
  refine lv_iushr hx hb dJ13_bitCount_17 rfl ?_
  refine lv_ldcw hx hb hown (hts _ q1070) dJ13_bitCount_18 ?_
  refine lv_iand hx hb dJ13_bitCount_21 ?_
  refine lv_iadd hx hb dJ13_bitCount_22 ?_
  refine lv_istore_n (lv' := [(0, .int (((a0 - (((a0).toUInt32 >>> (((1 : Int32)).toUInt32 &&& Int32.toUInt32 31)).toInt32 &&& (1431655765 : Int32))) &&& (858993459 : Int32)) + ((((a0 - (((a0).toUInt32 >>> (((1 : Int32)).toUInt32 &&& Int32.toUInt32 31)).toInt32 &&& (1431655765 : Int32)))).toUInt32 >>> (((2 : Int32)).toUInt32 &&& Int32.toUInt32 31)).toInt32 &&& (858993459 : Int32))))]) hx hb dJ13_bitCount_23 rfl hl (by decide) rfl (fun ls hl => ?_)
  refine lv_iload_n hx hb dJ13_bitCount_24 rfl (lv_at hl 0 rfl) ?_
  refine lv_iload_n hx hb dJ13_bitCount_25 rfl (lv_at hl 0 rfl) ?_
  refine lv_iconst (v := (4 : Int32)) hx hb dJ13_bitCount_26 (by decide) ?_
  refine lv_iushr hx hb dJ13_bitCount_27 rfl ?_
  refine lv_iadd hx hb dJ13_bitCount_28 ?_
  refine lv_ldcw hx hb hown (hts _ q1071) dJ13_bitCount_29 ?_
  refine lv_iand hx hb dJ13_bitCount_32 ?_
  refine lv_istore_n (lv' := [(0, .int (((((a0 - (((a0).toUInt32 >>> (((1 : Int32)).toUInt32 &&& Int32.toUInt32 31)).toInt32 &&& (1431655765 : Int32))) &&& (858993459 : Int32)) + ((((a0 - (((a0).toUInt32 >>> (((1 : Int32)).toUInt32 &&& Int32.toUInt32 31)).toInt32 &&& (1431655765 : Int32)))).toUInt32 >>> (((2 : Int32)).toUInt32 &&& Int32.toUInt32 31)).toInt32 &&& (858993459 : Int32))) + (((((a0 - (((a0).toUInt32 >>> (((1 : Int32)).toUInt32 &&& Int32.toUInt32 31)).toInt32 &&& (1431655765 : Int32))) &&& (858993459 : Int32)) + ((((a0 - (((a0).toUInt32 >>> (((1 : Int32)).toUInt32 &&& Int32.toUInt32 31)).toInt32 &&& (1431655765 : Int32)))).toUInt32 >>> (((2 : Int32)).toUInt32 &&& Int32.toUInt32 31)).toInt32 &&& (858993459 : Int32)))).toUInt32 >>> (((4 : Int32)).toUInt32 &&& Int32.toUInt32 31)).toInt32) &&& (252645135 : Int32)))]) hx hb dJ13_bitCount_33 rfl hl (by decide) rfl (fun ls hl => ?_)
  refine lv_iload_n hx hb dJ13_bitCount_34 rfl (lv_at hl 0 rfl) ?_
  refine lv_iload_n hx hb dJ13_bitCount_35 rfl (lv_at hl 0 rfl) ?_
  refine lv_bipush (v := (8 : Int32)) hx hb dJ13_bitCount_36 (by decide) ?_
  refine lv_iushr hx hb dJ13_bitCount_38 rfl ?_
  refine lv_iadd hx hb dJ13_bitCount_39 ?_
  refine lv_istore_n (lv' := [(0, .int ((((((a0 - (((a0).toUInt32 >>> (((1 : Int32)).toUInt32 &&& Int32.toUInt32 31)).toInt32 &&& (1431655765 : Int32))) &&& (858993459 : Int32)) + ((((a0 - (((a0).toUInt32 >>> (((1 : Int32)).toUInt32 &&& Int32.toUInt32 31)).toInt32 &&& (1431655765 : Int32)))).toUInt32 >>> (((2 : Int32)).toUInt32 &&& Int32.toUInt32 31)).toInt32 &&& (858993459 : Int32))) + (((((a0 - (((a0).toUInt32 >>> (((1 : Int32)).toUInt32 &&& Int32.toUInt32 31)).toInt32 &&& (1431655765 : Int32))) &&& (858993459 : Int32)) + ((((a0 - (((a0).toUInt32 >>> (((1 : Int32)).toUInt32 &&& Int32.toUInt32 31)).toInt32 &&& (1431655765 : Int32)))).toUInt32 >>> (((2 : Int32)).toUInt32 &&& Int32.toUInt32 31)).toInt32 &&& (858993459 : Int32)))).toUInt32 >>> (((4 : Int32)).toUInt32 &&& Int32.toUInt32 31)).toInt32) &&& (252645135 : Int32)) + (((((((a0 - (((a0).toUInt32 >>> (((1 : Int32)).toUInt32 &&& Int32.toUInt32 31)).toInt32 &&& (1431655765 : Int32))) &&& (858993459 : Int32)) + ((((a0 - (((a0).toUInt32 >>> (((1 : Int32)).toUInt32 &&& Int32.toUInt32 31)).toInt32 &&& (1431655765 : Int32)))).toUInt32 >>> (((2 : Int32)).toUInt32 &&& Int32.toUInt32 31)).toInt32 &&& (858993459 : Int32))) + (((((a0 - (((a0).toUInt32 >>> (((1 : Int32)).toUInt32 &&& Int32.toUInt32 31)).toInt32 &&& (1431655765 : Int32))) &&& (858993459 : Int32)) + ((((a0 - (((a0).toUInt32 >>> (((1 : Int32)).toUInt32 &&& Int32.toUInt32 31)).toInt32 &&& (1431655765 : Int32)))).toUInt32 >>> (((2 : Int32)).toUInt32 &&& Int32.toUInt32 31)).toInt32 &&& (858993459 : Int32)))).toUInt32 >>> (((4 : Int32)).toUInt32 &&& Int32.toUInt32 31)).toInt32) &&& (252645135 : Int32))).toUInt32 >>> (((8 : Int32)).toUInt32 &&& Int32.toUInt32 31)).toInt32))]) hx hb dJ13_bitCount_40 rfl hl (by decide) rfl (fun ls hl => ?_)
  refine lv_iload_n hx hb dJ13_bitCount_41 rfl (lv_at hl 0 rfl) ?_
  refine lv_iload_n hx hb dJ13_bitCount_42 rfl (lv_at hl 0 rfl) ?_
  refine lv_bipush (v := (16 : Int32)) hx hb dJ13_bitCount_43 (by decide) ?_
  refine lv_iushr hx hb dJ13_bitCount_45 rfl ?_
  refine lv_iadd hx hb dJ13_bitCount_46 ?_
  refine lv_istore_n (lv' := [(0, .int (((((((a0 - (((a0).toUInt32 >>> (((1 : Int32)).toUInt32 &&& Int32.toUInt32 31)).toInt32 &&& (1431655765 : Int32))) &&& (858993459 : Int32)) + ((((a0 - (((a0).toUInt32 >>> (((1 : Int32)).toUInt32 &&& Int32.toUInt32 31)).toInt32 &&& (1431655765 : Int32)))).toUInt32 >>> (((2 : Int32)).toUInt32 &&& Int32.toUInt32 31)).toInt32 &&& (858993459 : Int32))) + (((((a0 - (((a0).toUInt32 >>> (((1 : Int32)).toUInt32 &&& Int32.toUInt32 31)).toInt32 &&& (1431655765 : Int32))) &&& (858993459 : Int32)) + ((((a0 - (((a0).toUInt32 >>> (((1 : Int32)).toUInt32 &&& Int32.toUInt32 31)).toInt32 &&& (1431655765 : Int32)))).toUInt32 >>> (((2 : Int32)).toUInt32 &&& Int32.toUInt32 31)).toInt32 &&& (858993459 : Int32)))).toUInt32 >>> (((4 : Int32)).toUInt32 &&& Int32.toUInt32 31)).toInt32) &&& (252645135 : Int32)) + (((((((a0 - (((a0).toUInt32 >>> (((1 : Int32)).toUInt32 &&& Int32.toUInt32 31)).toInt32 &&& (1431655765 : Int32))) &&& (858993459 : Int32)) + ((((a0 - (((a0).toUInt32 >>> (((1 : Int32)).toUInt32 &&& Int32.toUInt32 31)).toInt32 &&& (1431655765 : Int32)))).toUInt32 >>> (((2 : Int32)).toUInt32 &&& Int32.toUInt32 31)).toInt32 &&& (858993459 : Int32))) + (((((a0 - (((a0).toUInt32 >>> (((1 : Int32)).toUInt32 &&& Int32.toUInt32 31)).toInt32 &&& (1431655765 : Int32))) &&& (858993459 : Int32)) + ((((a0 - (((a0).toUInt32 >>> (((1 : Int32)).toUInt32 &&& Int32.toUInt32 31)).toInt32 &&& (1431655765 : Int32)))).toUInt32 >>> (((2 : Int32)).toUInt32 &&& Int32.toUInt32 31)).toInt32 &&& (858993459 : Int32)))).toUInt32 >>> (((4 : Int32)).toUInt32 &&& Int32.toUInt32 31)).toInt32) &&& (252645135 : Int32))).toUInt32 >>> (((8 : Int32)).toUInt32 &&& Int32.toUInt32 31)).toInt32) + ((((((((a0 - (((a0).toUInt32 >>> (((1 : Int32)).toUInt32 &&& Int32.toUInt32 31)).toInt32 &&& (1431655765 : Int32))) &&& (858993459 : Int32)) + ((((a0 - (((a0).toUInt32 >>> (((1 : Int32)).toUInt32 &&& Int32.toUInt32 31)).toInt32 &&& (1431655765 : Int32)))).toUInt32 >>> (((2 : Int32)).toUInt32 &&& Int32.toUInt32 31)).toInt32 &&& (858993459 : Int32))) + (((((a0 - (((a0).toUInt32 >>> (((1 : Int32)).toUInt32 &&& Int32.toUInt32 31)).toInt32 &&& (1431655765 : Int32))) &&& (858993459 : Int32)) + ((((a0 - (((a0).toUInt32 >>> (((1 : Int32)).toUInt32 &&& Int32.toUInt32 31)).toInt32 &&& (1431655765 : Int32)))).toUInt32 >>> (((2 : Int32)).toUInt32 &&& Int32.toUInt32 31)).toInt32 &&& (858993459 : Int32)))).toUInt32 >>> (((4 : Int32)).toUInt32 &&& Int32.toUInt32 31)).toInt32) &&& (252645135 : Int32)) + (((((((a0 - (((a0).toUInt32 >>> (((1 : Int32)).toUInt32 &&& Int32.toUInt32 31)).toInt32 &&& (1431655765 : Int32))) &&& (858993459 : Int32)) + ((((a0 - (((a0).toUInt32 >>> (((1 : Int32)).toUInt32 &&& Int32.toUInt32 31)).toInt32 &&& (1431655765 : Int32)))).toUInt32 >>> (((2 : Int32)).toUInt32 &&& Int32.toUInt32 31)).toInt32 &&& (858993459 : Int32))) + (((((a0 - (((a0).toUInt32 >>> (((1 : Int32)).toUInt32 &&& Int32.toUInt32 31)).toInt32 &&& (1431655765 : Int32))) &&& (858993459 : Int32)) + ((((a0 - (((a0).toUInt32 >>> (((1 : Int32)).toUInt32 &&& Int32.toUInt32 31)).toInt32 &&& (1431655765 : Int32)))).toUInt32 >>> (((2 : Int32)).toUInt32 &&& Int32.toUInt32 31)).toInt32 &&& (858993459 : Int32)))).toUInt32 >>> (((4 : Int32)).toUInt32 &&& Int32.toUInt32 31)).toInt32) &&& (252645135 : Int32))).toUInt32 >>> (((8 : Int32)).toUInt32 &&& Int32.toUInt32 31)).toInt32)).toUInt32 >>> (((16 : Int32)).toUInt32 &&& Int32.toUInt32 31)).toInt32))]) hx hb dJ13_bitCount_47 rfl hl (by decide) rfl (fun ls hl => ?_)
  refine lv_iload_n hx hb dJ13_bitCount_48 rfl (lv_at hl 0 rfl) ?_
  refine lv_bipush (v := (63 : Int32)) hx hb dJ13_bitCount_49 (by decide) ?_
  refine lv_iand hx hb dJ13_bitCount_51 ?_
  exact hret _ _ _ _ _ _ dJ13_bitCount_52 rfl (congrArg (fun z9 => (z9, σ)) (Option.some.inj h)) hP
def cp_alone_B4 (σ : ST) (l1 : Int32) (rc4 : Int32 → Int32 → Option (Int32)) (w2 : Int32) (w3 : Int32) : Option (Int32) :=
  (if (gI σ 0 5) ≤ w3 then some (w2) else bo (if ((l1 >>> (w3 &&& 31)) &&& (1 : Int32)) = (1 : Int32) then ck w3 20 (bo (pgi σ (lR σ 0 2 w3) 6 2) (fun (v_7 : Int32) => bo (ig_bitCount (v_7 &&& (((1 : Int32) <<< ((gI σ 0 3) &&& 31)) - (1 : Int32)))) (fun (r_9 : Int32) => (if r_9 = (1 : Int32) then some ((1 : Int32)) else some ((0 : Int32)))))) else some ((0 : Int32))) (fun (x_2 : Int32) => (rc4 (w2 + x_2) (w3 + (1 : Int32)))))
def cp_alone (σ : ST) (a1 : Int32) : Option Int32 :=
  bo (wl2 (cp_alone_B4 σ a1) FU (0 : Int32) (0 : Int32)) (fun (o_12 : Int32) => some o_12)
abbrev rm_X0_alone : Room := rmf 1 20
set_option maxHeartbeats 4000000 in
set_option maxRecDepth 100000 in
theorem mt_X0_alone (l : Launch) (G : GT) (σ : ST) (a1 : Int32) {r : Int32} (h : cp_alone σ a1 = some r) : CI l cp_ft G yX0_alone (ws_ yX0_alone cX0_alone 4 (some .int)) rm_X0_alone 0 0 [.ref (G.2.2.1 0), .int a1] σ (r, σ) := by
  refine m_enterI (by decide) rfl (lv := [(0, .ref (G.2.2.1 0)), (1, .int a1)]) rfl ?_
  intro p e s m args below meth c H locs ls Q X hret hP hl
  have hx := X.1.1
  have hb := X.1.2.1
  have hown := X.1.2.2.2.1
  have hts := X.1.2.2.2.2
  unfold cp_alone at h
  refine lv_iconst (v := (0 : Int32)) hx hb dX0_alone_0 (by decide) ?_
  refine lv_istore_n (lv' := [(2, .int (0 : Int32)), (0, .ref (G.2.2.1 0)), (1, .int a1)]) hx hb dX0_alone_1 rfl hl (by decide) rfl (fun ls hl => ?_)
  refine lv_iconst (v := (0 : Int32)) hx hb dX0_alone_2 (by decide) ?_
  refine lv_istore_n (lv' := [(3, .int (0 : Int32)), (2, .int (0 : Int32)), (0, .ref (G.2.2.1 0)), (1, .int a1)]) hx hb dX0_alone_3 rfl hl (by decide) rfl (fun ls hl => ?_)
  obtain ⟨o_12, h_13, h⟩ := bo_ex h
  have hE_14 : ∀ (H : Heap) (locs : List Loc) (ls : Array Slot), PS cp_ft G s σ H locs → lv_has ls 4 [(2, .int o_12)] → W p l e rm_X0_alone s m args below meth c H locs 0 0 Q (F0 m 60 ls []) := by
    intro H locs ls hP hl
    refine lv_iload_n hx hb dX0_alone_60 rfl (lv_at hl 0 rfl) ?_
    exact hret _ _ _ _ _ _ dX0_alone_61 rfl (congrArg (fun z9 => (z9, σ)) (Option.some.inj h)) hP
  have hL_11 : ∀ (n : Nat) (w_15 : Int32) (w_16 : Int32) (H : Heap) (locs : List Loc) (ls : Array Slot), wl2 (cp_alone_B4 σ a1) n w_15 w_16 = some o_12 → PS cp_ft G s σ H locs → lv_has ls 4 [(0, .ref (G.2.2.1 0)), (1, .int a1), (2, .int w_15), (3, .int w_16)] → W p l e rm_X0_alone s m args below meth c H locs 0 0 Q (F0 m 4 ls []) := by
    intro n
    induction n with
    | zero => intro w_15 w_16 H locs ls h_17; cases h_17
    | succ n ih =>
      intro w_15 w_16 H locs ls h_17 hP hl
      have h_17 : cp_alone_B4 σ a1 (wl2 (cp_alone_B4 σ a1) n) w_15 w_16 = some _ := h_17
      generalize wl2 (cp_alone_B4 σ a1) n = rc_18 at h_17 ih
      unfold cp_alone_B4 at h_17
      refine lv_iload_n hx hb dX0_alone_4 rfl (lv_at hl 3 rfl) ?_
      refine lv_aload_n hx hb dX0_alone_5 rfl (lv_at hl 0 rfl) ?_
      refine r_geti X hP 0 cp_c0 lk_0 5 (Nat.le_of_ble_eq_true rfl) q291 cp_f5 dX0_alone_6 ?_
      refine lv_icmp_ge (tgt := 60) hx hb dX0_alone_9 (by decide) (fun c_19 => ?_) (fun c_19 => ?_)
      · have h_17 := it_t h_17 c_19
        obtain rfl := Option.some.inj h_17
        exact hE_14 _ _ _ hP (lv_sub hl [2] rfl)
      · have h_17 := it_f h_17 c_19
        refine lv_iload_n hx hb dX0_alone_12 rfl (lv_at hl 2 rfl) ?_
        refine lv_iload_n hx hb dX0_alone_13 rfl (lv_at hl 1 rfl) ?_
        refine lv_iload_n hx hb dX0_alone_14 rfl (lv_at hl 3 rfl) ?_
        refine lv_ishr hx hb dX0_alone_15 ?_
        refine lv_iconst (v := (1 : Int32)) hx hb dX0_alone_16 (by decide) ?_
        refine lv_iand hx hb dX0_alone_17 ?_
        refine lv_iconst (v := (1 : Int32)) hx hb dX0_alone_18 (by decide) ?_
        obtain ⟨x_20, h_21, h_17⟩ := bo_ex h_17
        have hJ_22 : ∀ (H : Heap) (locs : List Loc) (ls : Array Slot), PS cp_ft G s σ H locs → lv_has ls 4 [(0, .ref (G.2.2.1 0)), (1, .int a1), (3, .int w_16)] → W p l e rm_X0_alone s m args below meth c H locs 0 0 Q (F0 m 52 ls [.int x_20, .int w_15]) := by
          intro H locs ls hP hl
          refine lv_iadd hx hb dX0_alone_52 ?_
          refine lv_istore_n (lv' := [(2, .int (w_15 + x_20)), (0, .ref (G.2.2.1 0)), (1, .int a1), (3, .int w_16)]) hx hb dX0_alone_53 rfl hl (by decide) rfl (fun ls hl => ?_)
          refine lv_iinc (v := (w_16 + (1 : Int32))) (lv' := [(3, .int (w_16 + (1 : Int32))), (2, .int (w_15 + x_20)), (0, .ref (G.2.2.1 0)), (1, .int a1)]) hx hb dX0_alone_54 hl (k := 3) rfl rfl (by decide) rfl (fun ls hl => ?_)
          refine lv_goto (tgt := 4) hx hb dX0_alone_57 (by decide) ?_
          exact ih _ _ _ _ _ h_17 hP (lv_sub hl [2, 3, 1, 0] rfl)
        refine lv_icmp_ne (tgt := 51) hx hb dX0_alone_19 (by decide) (fun c_23 => ?_) (fun c_23 => ?_)
        · have h_21 := it_f h_21 c_23
          refine lv_iconst (v := (0 : Int32)) hx hb dX0_alone_51 (by decide) ?_
          obtain rfl := Option.some.inj h_21
          exact hJ_22 _ _ _ hP (lv_sub hl [0, 1, 3] rfl)
        · have h_21 := it_t h_21 c_23
          refine lv_aload_n hx hb dX0_alone_22 rfl (lv_at hl 0 rfl) ?_
          refine r_geta X hP 0 cp_c0 lk_0 2 (Nat.le_of_ble_eq_true rfl) q284 cp_f2 dX0_alone_23 ?_
          refine lv_iload_n hx hb dX0_alone_26 rfl (lv_at hl 3 rfl) ?_
          refine r_aald (t := 2) X hP 3 cp_c3 rfl (ck_in h_21) dX0_alone_27 ?_
          have h_21 := ck_k h_21
          obtain ⟨v_25, e_24, h_21⟩ := bo_ex h_21
          refine r_pgiN (r := (lR σ 0 2 w_16)) X hP lk_6 2 (Nat.le_of_ble_eq_true rfl) e_24 q472 dX0_alone_28 ?_
          refine lv_iconst (v := (1 : Int32)) hx hb dX0_alone_31 (by decide) ?_
          refine lv_aload_n hx hb dX0_alone_32 rfl (lv_at hl 0 rfl) ?_
          refine r_geti X hP 0 cp_c0 lk_0 3 (Nat.le_of_ble_eq_true rfl) q286 cp_f3 dX0_alone_33 ?_
          refine lv_ishl hx hb dX0_alone_36 ?_
          refine lv_iconst (v := (1 : Int32)) hx hb dX0_alone_37 (by decide) ?_
          refine lv_isub hx hb dX0_alone_38 ?_
          refine lv_iand hx hb dX0_alone_39 ?_
          obtain ⟨r_27, e_26, h_21⟩ := bo_ex h_21
          refine r_calli (r_runS (rest := [.int w_15]) X hP (mt_J13_bitCount l G σ (v_25 &&& (((1 : Int32) <<< ((gI σ 0 3) &&& 31)) - (1 : Int32))) e_26) (va_cwS 1 hts (lw_S q1066 q1067 q139 q1068) rfl rfl rfl cdJ13_bitCount ⟨Nat.le_of_ble_eq_true rfl, Nat.le_of_ble_eq_true rfl⟩) rfl hl.1 rfl (Nat.le_of_ble_eq_true rfl) dX0_alone_40 ⟨Nat.le_refl _, Nat.le_refl _⟩) hP (fun H locs hP => ?_)
          refine lv_iconst (v := (1 : Int32)) hx hb dX0_alone_43 (by decide) ?_
          refine lv_icmp_ne (tgt := 51) hx hb dX0_alone_44 (by decide) (fun c_28 => ?_) (fun c_28 => ?_)
          · have h_21 := it_f h_21 c_28
            refine lv_iconst (v := (0 : Int32)) hx hb dX0_alone_51 (by decide) ?_
            obtain rfl := Option.some.inj h_21
            exact hJ_22 _ _ _ hP (lv_sub hl [0, 1, 3] rfl)
          · have h_21 := it_t h_21 c_28
            refine lv_iconst (v := (1 : Int32)) hx hb dX0_alone_47 (by decide) ?_
            refine lv_goto (tgt := 52) hx hb dX0_alone_48 (by decide) ?_
            obtain rfl := Option.some.inj h_21
            exact hJ_22 _ _ _ hP (lv_sub hl [0, 1, 3] rfl)
  exact hL_11 _ _ _ _ _ _ h_13 hP (lv_sub hl [2, 3, 1, 0] rfl)
def mg_thereFor (b : Nat) (σ : ST) (a1 : Int32) : Option Int32 :=
  (if a1 = (gI σ (1 + b) 20) then some (0 : Int32) else ck a1 10 (bo (pgi σ (lR σ 0 0 a1) 4 3) (fun (v_3 : Int32) => some (if (0 : Int32) < ((gI σ (1 + b) 16) - v_3) then ((gI σ (1 + b) 16) - v_3) else (0 : Int32)))))
abbrev rm_X2_thereFor : Room := rmf 1 13
set_option maxHeartbeats 4000000 in
set_option maxRecDepth 100000 in
theorem mt_X2_thereFor (l : Launch) (G : GT) (b : Nat) (hbb : b < 2) (σ : ST) (a1 : Int32) {r : Int32} (h : mg_thereFor b σ a1 = some r) : CI l cp_ft G yX2_thereFor (ws_ yX2_thereFor cX2_thereFor 2 (some .int)) rm_X2_thereFor 0 0 [.ref (G.2.2.1 (15 + 17 * b)), .int a1] σ (r, σ) := by
  refine m_enterI (by decide) rfl (lv := [(0, .ref (G.2.2.1 (15 + 17 * b))), (1, .int a1)]) rfl ?_
  intro p e s m args below meth c H locs ls Q X hret hP hl
  have hx := X.1.1
  have hb := X.1.2.1
  have hown := X.1.2.2.2.1
  have hts := X.1.2.2.2.2
  unfold mg_thereFor at h
  refine lv_iload_n hx hb dX2_thereFor_0 rfl (lv_at hl 1 rfl) ?_
  refine lv_aload_n hx hb dX2_thereFor_1 rfl (lv_at hl 0 rfl) ?_
  refine r_geti X hP (15 + 17 * b) (mg_c b hbb) lk_2 20 (Nat.le_of_ble_eq_true rfl) q229 (mg_f20 b) dX2_thereFor_2 ?_
  refine lv_icmp_ne (tgt := 12) hx hb dX2_thereFor_5 (by decide) (fun c_1 => ?_) (fun c_1 => ?_)
  · have h := it_f h c_1
    refine lv_iconst (v := (0 : Int32)) hx hb dX2_thereFor_12 (by decide) ?_
    refine lv_aload_n hx hb dX2_thereFor_13 rfl (lv_at hl 0 rfl) ?_
    refine r_geti X hP (15 + 17 * b) (mg_c b hbb) lk_2 16 (Nat.le_of_ble_eq_true rfl) q222 (mg_f16 b) dX2_thereFor_14 ?_
    refine lv_aload_n hx hb dX2_thereFor_17 rfl (lv_at hl 0 rfl) ?_
    refine r_geta X hP (15 + 17 * b) (mg_c b hbb) lk_2 21 (Nat.le_of_ble_eq_true rfl) q230 (mg_f21 b) dX2_thereFor_18 ?_
    refine r_getaN X hP 0 cp_c0 lk_0 0 (Nat.le_of_ble_eq_true rfl) q281 cp_f0 dX2_thereFor_21 ?_
    refine lv_iload_n hx hb dX2_thereFor_24 rfl (lv_at hl 1 rfl) ?_
    refine r_aald (t := 0) X hP 1 cp_c1 rfl (ck_in h) dX2_thereFor_25 ?_
    have h := ck_k h
    obtain ⟨v_3, e_2, h⟩ := bo_ex h
    refine r_pgiN (r := (lR σ 0 0 a1)) X hP lk_4 3 (Nat.le_of_ble_eq_true rfl) e_2 q414 dX2_thereFor_26 ?_
    refine lv_isub hx hb dX2_thereFor_29 ?_
    refine va_mmax (rest := []) hx hb (X.1.2.2.1.trans hl.1.symm) hown (hts _ q1024) (hts _ q792) (hts _ q128) (hts _ q793) (Nat.le_of_ble_eq_true rfl) (Nat.le_of_ble_eq_true rfl) (Nat.le_of_ble_eq_true rfl) (Nat.le_of_ble_eq_true rfl) dX2_thereFor_30 ?_
    exact hret _ _ _ _ _ _ dX2_thereFor_33 rfl (congrArg (fun z9 => (z9, σ)) (Option.some.inj h)) hP
  · have h := it_t h c_1
    refine lv_iconst (v := (0 : Int32)) hx hb dX2_thereFor_8 (by decide) ?_
    refine lv_goto (tgt := 33) hx hb dX2_thereFor_9 (by decide) ?_
    exact hret _ _ _ _ _ _ dX2_thereFor_33 rfl (congrArg (fun z9 => (z9, σ)) (Option.some.inj h)) hP
def mg_cost_B4 (b : Nat) (σ : ST) (rc4 : Int32 → Int32 → Option (Int32)) (w1 : Int32) (w2 : Int32) : Option (Int32) :=
  (if (gI σ 0 3) ≤ w2 then some (w1) else ck w2 10 (bo (pgi σ (lR σ 0 0 w2) 4 0) (fun (v_3 : Int32) => bo (mg_thereFor b σ w2) (fun (r_5 : Int32) => (rc4 (w1 + (v_3 * r_5)) (w2 + (1 : Int32)))))))
def mg_cost (b : Nat) (σ : ST)  : Option Int32 :=
  bo (wl2 (mg_cost_B4 b σ ) FU (0 : Int32) (0 : Int32)) (fun (o_7 : Int32) => some o_7)
abbrev rm_X2_cost : Room := rmf 2 34
set_option maxHeartbeats 4000000 in
set_option maxRecDepth 100000 in
theorem mt_X2_cost (l : Launch) (G : GT) (b : Nat) (hbb : b < 2) (σ : ST)  {r : Int32} (h : mg_cost b σ = some r) : CI l cp_ft G yX2_cost (ws_ yX2_cost cX2_cost 3 (some .int)) rm_X2_cost 0 0 [.ref (G.2.2.1 (15 + 17 * b))] σ (r, σ) := by
  refine m_enterI (by decide) rfl (lv := [(0, .ref (G.2.2.1 (15 + 17 * b)))]) rfl ?_
  intro p e s m args below meth c H locs ls Q X hret hP hl
  have hx := X.1.1
  have hb := X.1.2.1
  have hown := X.1.2.2.2.1
  have hts := X.1.2.2.2.2
  unfold mg_cost at h
  refine lv_iconst (v := (0 : Int32)) hx hb dX2_cost_0 (by decide) ?_
  refine lv_istore_n (lv' := [(1, .int (0 : Int32)), (0, .ref (G.2.2.1 (15 + 17 * b)))]) hx hb dX2_cost_1 rfl hl (by decide) rfl (fun ls hl => ?_)
  refine lv_iconst (v := (0 : Int32)) hx hb dX2_cost_2 (by decide) ?_
  refine lv_istore_n (lv' := [(2, .int (0 : Int32)), (1, .int (0 : Int32)), (0, .ref (G.2.2.1 (15 + 17 * b)))]) hx hb dX2_cost_3 rfl hl (by decide) rfl (fun ls hl => ?_)
  obtain ⟨o_7, h_8, h⟩ := bo_ex h
  have hE_9 : ∀ (H : Heap) (locs : List Loc) (ls : Array Slot), PS cp_ft G s σ H locs → lv_has ls 3 [(1, .int o_7)] → W p l e rm_X2_cost s m args below meth c H locs 0 0 Q (F0 m 42 ls []) := by
    intro H locs ls hP hl
    refine lv_iload_n hx hb dX2_cost_42 rfl (lv_at hl 0 rfl) ?_
    exact hret _ _ _ _ _ _ dX2_cost_43 rfl (congrArg (fun z9 => (z9, σ)) (Option.some.inj h)) hP
  have hL_6 : ∀ (n : Nat) (w_10 : Int32) (w_11 : Int32) (H : Heap) (locs : List Loc) (ls : Array Slot), wl2 (mg_cost_B4 b σ ) n w_10 w_11 = some o_7 → PS cp_ft G s σ H locs → lv_has ls 3 [(0, .ref (G.2.2.1 (15 + 17 * b))), (1, .int w_10), (2, .int w_11)] → W p l e rm_X2_cost s m args below meth c H locs 0 0 Q (F0 m 4 ls []) := by
    intro n
    induction n with
    | zero => intro w_10 w_11 H locs ls h_12; cases h_12
    | succ n ih =>
      intro w_10 w_11 H locs ls h_12 hP hl
      have h_12 : mg_cost_B4 b σ  (wl2 (mg_cost_B4 b σ ) n) w_10 w_11 = some _ := h_12
      generalize wl2 (mg_cost_B4 b σ ) n = rc_13 at h_12 ih
      unfold mg_cost_B4 at h_12
      refine lv_iload_n hx hb dX2_cost_4 rfl (lv_at hl 2 rfl) ?_
      refine lv_aload_n hx hb dX2_cost_5 rfl (lv_at hl 0 rfl) ?_
      refine r_geta X hP (15 + 17 * b) (mg_c b hbb) lk_2 21 (Nat.le_of_ble_eq_true rfl) q230 (mg_f21 b) dX2_cost_6 ?_
      refine r_getiN X hP 0 cp_c0 lk_0 3 (Nat.le_of_ble_eq_true rfl) q287 cp_f3 dX2_cost_9 ?_
      refine lv_icmp_ge (tgt := 42) hx hb dX2_cost_12 (by decide) (fun c_14 => ?_) (fun c_14 => ?_)
      · have h_12 := it_t h_12 c_14
        obtain rfl := Option.some.inj h_12
        exact hE_9 _ _ _ hP (lv_sub hl [1] rfl)
      · have h_12 := it_f h_12 c_14
        refine lv_iload_n hx hb dX2_cost_15 rfl (lv_at hl 1 rfl) ?_
        refine lv_aload_n hx hb dX2_cost_16 rfl (lv_at hl 0 rfl) ?_
        refine r_geta X hP (15 + 17 * b) (mg_c b hbb) lk_2 21 (Nat.le_of_ble_eq_true rfl) q230 (mg_f21 b) dX2_cost_17 ?_
        refine r_getaN X hP 0 cp_c0 lk_0 0 (Nat.le_of_ble_eq_true rfl) q281 cp_f0 dX2_cost_20 ?_
        refine lv_iload_n hx hb dX2_cost_23 rfl (lv_at hl 2 rfl) ?_
        refine r_aald (t := 0) X hP 1 cp_c1 rfl (ck_in h_12) dX2_cost_24 ?_
        have h_12 := ck_k h_12
        obtain ⟨v_16, e_15, h_12⟩ := bo_ex h_12
        refine r_pgiN (r := (lR σ 0 0 w_11)) X hP lk_4 0 (Nat.le_of_ble_eq_true rfl) e_15 q406 dX2_cost_25 ?_
        refine lv_aload_n hx hb dX2_cost_28 rfl (lv_at hl 0 rfl) ?_
        refine lv_iload_n hx hb dX2_cost_29 rfl (lv_at hl 2 rfl) ?_
        obtain ⟨r_18, e_17, h_12⟩ := bo_ex h_12
        refine r_calli (r_runV (rest := [.int v_16, .int w_10]) X hP (15 + 17 * b) (mg_c b hbb) lk_2 (mt_X2_thereFor l G b hbb σ w_11 e_17) (cwV 1 hts (lw_V q1076 q1077 q1078 q112 q1079) rfl rfl rfl ⟨rfl, cdX2_thereFor⟩ ⟨Nat.le_of_ble_eq_true rfl, Nat.le_of_ble_eq_true rfl⟩) rfl hl.1 rfl (Nat.le_of_ble_eq_true rfl) dX2_cost_30 ⟨Nat.le_refl _, Nat.le_refl _⟩) hP (fun H locs hP => ?_)
        refine lv_imul hx hb dX2_cost_33 ?_
        refine lv_iadd hx hb dX2_cost_34 ?_
        refine lv_istore_n (lv' := [(1, .int (w_10 + (v_16 * r_18))), (0, .ref (G.2.2.1 (15 + 17 * b))), (2, .int w_11)]) hx hb dX2_cost_35 rfl hl (by decide) rfl (fun ls hl => ?_)
        refine lv_iinc (v := (w_11 + (1 : Int32))) (lv' := [(2, .int (w_11 + (1 : Int32))), (1, .int (w_10 + (v_16 * r_18))), (0, .ref (G.2.2.1 (15 + 17 * b)))]) hx hb dX2_cost_36 hl (k := 2) rfl rfl (by decide) rfl (fun ls hl => ?_)
        refine lv_goto (tgt := 4) hx hb dX2_cost_39 (by decide) ?_
        exact ih _ _ _ _ _ h_12 hP (lv_sub hl [2, 1, 0] rfl)
  exact hL_6 _ _ _ _ _ _ h_8 hP (lv_sub hl [2, 1, 0] rfl)
def mg_shed_B6 (b : Nat) (σ : ST) (rc6 : Int32 → Int32 → Int32 → Option (Int32)) (w1 : Int32) (w2 : Int32) (w3 : Int32) : Option (Int32) :=
  (if (gI σ 0 4) ≤ w3 then some (w1) else ck w3 6 (ck w3 6 (bo (pgi σ (lR σ 0 1 w3) 5 0) (fun (v_3 : Int32) => nz ((if 0 ≤ v_3 then v_3 else 0 - v_3) + (1 : Int32)) (bo2 (if w2 < (((1000 : Int32) * (lI σ (1 + b) 0 w3)) / ((if 0 ≤ v_3 then v_3 else 0 - v_3) + (1 : Int32))) then some (w3, (((1000 : Int32) * (lI σ (1 + b) 0 w3)) / ((if 0 ≤ v_3 then v_3 else 0 - v_3) + (1 : Int32)))) else some (w1, w2)) (fun (y_4 : Int32) (y_5 : Int32) => (rc6 y_4 y_5 (w3 + (1 : Int32)))))))))
def mg_shed (b : Nat) (σ : ST)  : Option Int32 :=
  bo (wl3 (mg_shed_B6 b σ ) FU (0 : Int32) (-1 : Int32) (0 : Int32)) (fun (o_10 : Int32) => some o_10)
abbrev rm_X2_shed : Room := rmf 1 14
set_option maxHeartbeats 4000000 in
set_option maxRecDepth 100000 in
theorem mt_X2_shed (l : Launch) (G : GT) (b : Nat) (hbb : b < 2) (σ : ST)  {r : Int32} (h : mg_shed b σ = some r) : CI l cp_ft G yX2_shed (ws_ yX2_shed cX2_shed 5 (some .int)) rm_X2_shed 0 0 [.ref (G.2.2.1 (15 + 17 * b))] σ (r, σ) := by
  refine m_enterI (by decide) rfl (lv := [(0, .ref (G.2.2.1 (15 + 17 * b)))]) rfl ?_
  intro p e s m args below meth c H locs ls Q X hret hP hl
  have hx := X.1.1
  have hb := X.1.2.1
  have hown := X.1.2.2.2.1
  have hts := X.1.2.2.2.2
  unfold mg_shed at h
  refine lv_iconst (v := (0 : Int32)) hx hb dX2_shed_0 (by decide) ?_
  refine lv_istore_n (lv' := [(1, .int (0 : Int32)), (0, .ref (G.2.2.1 (15 + 17 * b)))]) hx hb dX2_shed_1 rfl hl (by decide) rfl (fun ls hl => ?_)
  refine lv_iconst (v := (-1 : Int32)) hx hb dX2_shed_2 (by decide) ?_
  refine lv_istore_n (lv' := [(2, .int (-1 : Int32)), (1, .int (0 : Int32)), (0, .ref (G.2.2.1 (15 + 17 * b)))]) hx hb dX2_shed_3 rfl hl (by decide) rfl (fun ls hl => ?_)
  refine lv_iconst (v := (0 : Int32)) hx hb dX2_shed_4 (by decide) ?_
  refine lv_istore_n (lv' := [(3, .int (0 : Int32)), (2, .int (-1 : Int32)), (1, .int (0 : Int32)), (0, .ref (G.2.2.1 (15 + 17 * b)))]) hx hb dX2_shed_5 rfl hl (by decide) rfl (fun ls hl => ?_)
  obtain ⟨o_10, h_11, h⟩ := bo_ex h
  have hE_12 : ∀ (H : Heap) (locs : List Loc) (ls : Array Slot), PS cp_ft G s σ H locs → lv_has ls 5 [(1, .int o_10)] → W p l e rm_X2_shed s m args below meth c H locs 0 0 Q (F0 m 67 ls []) := by
    intro H locs ls hP hl
    refine lv_iload_n hx hb dX2_shed_67 rfl (lv_at hl 0 rfl) ?_
    exact hret _ _ _ _ _ _ dX2_shed_68 rfl (congrArg (fun z9 => (z9, σ)) (Option.some.inj h)) hP
  have hL_9 : ∀ (n : Nat) (w_13 : Int32) (w_14 : Int32) (w_15 : Int32) (H : Heap) (locs : List Loc) (ls : Array Slot), wl3 (mg_shed_B6 b σ ) n w_13 w_14 w_15 = some o_10 → PS cp_ft G s σ H locs → lv_has ls 5 [(0, .ref (G.2.2.1 (15 + 17 * b))), (1, .int w_13), (2, .int w_14), (3, .int w_15)] → W p l e rm_X2_shed s m args below meth c H locs 0 0 Q (F0 m 6 ls []) := by
    intro n
    induction n with
    | zero => intro w_13 w_14 w_15 H locs ls h_16; cases h_16
    | succ n ih =>
      intro w_13 w_14 w_15 H locs ls h_16 hP hl
      have h_16 : mg_shed_B6 b σ  (wl3 (mg_shed_B6 b σ ) n) w_13 w_14 w_15 = some _ := h_16
      generalize wl3 (mg_shed_B6 b σ ) n = rc_17 at h_16 ih
      unfold mg_shed_B6 at h_16
      refine lv_iload_n hx hb dX2_shed_6 rfl (lv_at hl 3 rfl) ?_
      refine lv_aload_n hx hb dX2_shed_7 rfl (lv_at hl 0 rfl) ?_
      refine r_geta X hP (15 + 17 * b) (mg_c b hbb) lk_2 21 (Nat.le_of_ble_eq_true rfl) q230 (mg_f21 b) dX2_shed_8 ?_
      refine r_getiN X hP 0 cp_c0 lk_0 4 (Nat.le_of_ble_eq_true rfl) q288 cp_f4 dX2_shed_11 ?_
      refine lv_icmp_ge (tgt := 67) hx hb dX2_shed_14 (by decide) (fun c_18 => ?_) (fun c_18 => ?_)
      · have h_16 := it_t h_16 c_18
        obtain rfl := Option.some.inj h_16
        exact hE_12 _ _ _ hP (lv_sub hl [1] rfl)
      · have h_16 := it_f h_16 c_18
        refine lv_sipush (v := (1000 : Int32)) hx hb dX2_shed_17 (by decide) ?_
        refine lv_aload_n hx hb dX2_shed_20 rfl (lv_at hl 0 rfl) ?_
        refine r_geta X hP (15 + 17 * b) (mg_c b hbb) lk_2 0 (Nat.le_of_ble_eq_true rfl) q193 (mg_f0 b) dX2_shed_21 ?_
        refine lv_iload_n hx hb dX2_shed_24 rfl (lv_at hl 3 rfl) ?_
        refine r_iald X hP (16 + 17 * b + 0) (mg_a0 b hbb) (ck_in h_16) dX2_shed_25 ?_
        have h_16 := ck_k h_16
        refine lv_imul hx hb dX2_shed_26 ?_
        refine lv_aload_n hx hb dX2_shed_27 rfl (lv_at hl 0 rfl) ?_
        refine r_geta X hP (15 + 17 * b) (mg_c b hbb) lk_2 21 (Nat.le_of_ble_eq_true rfl) q230 (mg_f21 b) dX2_shed_28 ?_
        refine r_getaN X hP 0 cp_c0 lk_0 1 (Nat.le_of_ble_eq_true rfl) q283 cp_f1 dX2_shed_31 ?_
        refine lv_iload_n hx hb dX2_shed_34 rfl (lv_at hl 3 rfl) ?_
        refine r_aald (t := 1) X hP 2 cp_c2 rfl (ck_in h_16) dX2_shed_35 ?_
        have h_16 := ck_k h_16
        obtain ⟨v_20, e_19, h_16⟩ := bo_ex h_16
        refine r_pgiN (r := (lR σ 0 1 w_15)) X hP lk_5 0 (Nat.le_of_ble_eq_true rfl) e_19 q436 dX2_shed_36 ?_
        refine va_mabs (rest := [.int ((1000 : Int32) * (lI σ (1 + b) 0 w_15))]) hx hb (X.1.2.2.1.trans hl.1.symm) hown (hts _ q1084) (hts _ q1085) (hts _ q128) (hts _ q1086) (Nat.le_of_ble_eq_true rfl) (Nat.le_of_ble_eq_true rfl) (Nat.le_of_ble_eq_true rfl) (Nat.le_of_ble_eq_true rfl) dX2_shed_39 ?_
        refine lv_iconst (v := (1 : Int32)) hx hb dX2_shed_42 (by decide) ?_
        refine lv_iadd hx hb dX2_shed_43 ?_
        refine lv_idiv hx hb dX2_shed_44 (nz_ne h_16) ?_
        have h_16 := nz_k h_16
        refine lv_istore (lv' := [(4, .int (((1000 : Int32) * (lI σ (1 + b) 0 w_15)) / ((if 0 ≤ v_20 then v_20 else 0 - v_20) + (1 : Int32)))), (0, .ref (G.2.2.1 (15 + 17 * b))), (1, .int w_13), (2, .int w_14), (3, .int w_15)]) hx hb dX2_shed_45 hl (by decide) rfl (fun ls hl => ?_)
        refine lv_iload hx hb dX2_shed_47 (lv_at hl 0 rfl) ?_
        refine lv_iload_n hx hb dX2_shed_49 rfl (lv_at hl 3 rfl) ?_
        obtain ⟨y_21, y_22, h_23, h_16⟩ := bo2_ex h_16
        have hJ_24 : ∀ (H : Heap) (locs : List Loc) (ls : Array Slot), PS cp_ft G s σ H locs → lv_has ls 5 [(0, .ref (G.2.2.1 (15 + 17 * b))), (1, .int y_21), (2, .int y_22), (3, .int w_15)] → W p l e rm_X2_shed s m args below meth c H locs 0 0 Q (F0 m 61 ls []) := by
          intro H locs ls hP hl
          refine lv_iinc (v := (w_15 + (1 : Int32))) (lv' := [(3, .int (w_15 + (1 : Int32))), (0, .ref (G.2.2.1 (15 + 17 * b))), (1, .int y_21), (2, .int y_22)]) hx hb dX2_shed_61 hl (k := 3) rfl rfl (by decide) rfl (fun ls hl => ?_)
          refine lv_goto (tgt := 6) hx hb dX2_shed_64 (by decide) ?_
          exact ih _ _ _ _ _ _ h_16 hP (lv_sub hl [1, 2, 3, 0] rfl)
        refine lv_icmp_gt (tgt := 56) hx hb dX2_shed_50 (by decide) (fun c_25 => ?_) (fun c_25 => ?_)
        · have h_23 := it_t h_23 c_25
          refine lv_iload_n hx hb dX2_shed_56 rfl (lv_at hl 4 rfl) ?_
          refine lv_istore_n (lv' := [(1, .int w_15), (4, .int (((1000 : Int32) * (lI σ (1 + b) 0 w_15)) / ((if 0 ≤ v_20 then v_20 else 0 - v_20) + (1 : Int32)))), (0, .ref (G.2.2.1 (15 + 17 * b))), (2, .int w_14), (3, .int w_15)]) hx hb dX2_shed_57 rfl hl (by decide) rfl (fun ls hl => ?_)
          refine lv_iload hx hb dX2_shed_58 (lv_at hl 1 rfl) ?_
          refine lv_istore_n (lv' := [(2, .int (((1000 : Int32) * (lI σ (1 + b) 0 w_15)) / ((if 0 ≤ v_20 then v_20 else 0 - v_20) + (1 : Int32)))), (1, .int w_15), (4, .int (((1000 : Int32) * (lI σ (1 + b) 0 w_15)) / ((if 0 ≤ v_20 then v_20 else 0 - v_20) + (1 : Int32)))), (0, .ref (G.2.2.1 (15 + 17 * b))), (3, .int w_15)]) hx hb dX2_shed_60 rfl hl (by decide) rfl (fun ls hl => ?_)
          obtain ⟨rfl, rfl⟩ := so2 h_23
          exact hJ_24 _ _ _ hP (lv_sub hl [3, 1, 0, 4] rfl)
        · have h_23 := it_f h_23 c_25
          refine lv_goto (tgt := 61) hx hb dX2_shed_53 (by decide) ?_
          obtain ⟨rfl, rfl⟩ := so2 h_23
          exact hJ_24 _ _ _ hP (lv_sub hl [1, 2, 3, 4] rfl)
  exact hL_9 _ _ _ _ _ _ _ h_11 hP (lv_sub hl [3, 2, 1, 0] rfl)
def cp_needed_B4 (l1 : Int32) (rc4 : Int32 → Int32 → ST → Option (Int32 × ST)) (w2 : Int32) (w3 : Int32) (σ : ST) : Option (Int32 × ST) :=
  (if (gI σ 0 3) ≤ w3 then some (w2, σ) else bo (mg_go 1 σ (gI σ 0 6) (gI σ 0 8) w3) (fun (σ_3 : ST) => bo (mg_decided 1 σ_3) (fun (r_5 : Int32) => bo (if r_5 = l1 then some (w2) else some ((w2 ||| ((1 : Int32) <<< (w3 &&& 31))))) (fun (y_6 : Int32) => (rc4 y_6 (w3 + (1 : Int32)) σ_3)))))
def cp_needed (σ : ST) (a1 : Int32) : Option (Int32 × ST) :=
  bo2 (wl3 (cp_needed_B4 a1) FU (0 : Int32) (0 : Int32) σ) (fun (o_11 : Int32) (σ_12 : ST) => some (o_11, σ_12))
abbrev rm_X0_needed : Room := rmf 266 7942
set_option maxHeartbeats 4000000 in
set_option maxRecDepth 100000 in
theorem mt_X0_needed (l : Launch) (G : GT) (σ : ST) (a1 : Int32) {r : Int32} {u : ST} (h : cp_needed σ a1 = some (r, u)) : CI l cp_ft G yX0_needed (ws_ yX0_needed cX0_needed 4 (some .int)) rm_X0_needed 0 0 [.ref (G.2.2.1 0), .int a1] σ (r, u) := by
  refine m_enterI (by decide) rfl (lv := [(0, .ref (G.2.2.1 0)), (1, .int a1)]) rfl ?_
  intro p e s m args below meth c H locs ls Q X hret hP hl
  have hx := X.1.1
  have hb := X.1.2.1
  have hown := X.1.2.2.2.1
  have hts := X.1.2.2.2.2
  unfold cp_needed at h
  refine lv_iconst (v := (0 : Int32)) hx hb dX0_needed_0 (by decide) ?_
  refine lv_istore_n (lv' := [(2, .int (0 : Int32)), (0, .ref (G.2.2.1 0)), (1, .int a1)]) hx hb dX0_needed_1 rfl hl (by decide) rfl (fun ls hl => ?_)
  refine lv_iconst (v := (0 : Int32)) hx hb dX0_needed_2 (by decide) ?_
  refine lv_istore_n (lv' := [(3, .int (0 : Int32)), (2, .int (0 : Int32)), (0, .ref (G.2.2.1 0)), (1, .int a1)]) hx hb dX0_needed_3 rfl hl (by decide) rfl (fun ls hl => ?_)
  obtain ⟨o_11, σ_12, h_13, h⟩ := bo2_ex h
  have hE_14 : ∀ (H : Heap) (locs : List Loc) (ls : Array Slot), PS cp_ft G s σ_12 H locs → lv_has ls 4 [(2, .int o_11)] → W p l e rm_X0_needed s m args below meth c H locs 0 0 Q (F0 m 55 ls []) := by
    intro H locs ls hP hl
    refine lv_iload_n hx hb dX0_needed_55 rfl (lv_at hl 0 rfl) ?_
    exact hret _ _ _ _ _ _ dX0_needed_56 rfl (Option.some.inj h) hP
  have hL_10 : ∀ (n : Nat) (w_15 : Int32) (w_16 : Int32) (σ_17 : ST) (H : Heap) (locs : List Loc) (ls : Array Slot), wl3 (cp_needed_B4 a1) n w_15 w_16 σ_17 = some (o_11, σ_12) → PS cp_ft G s σ_17 H locs → lv_has ls 4 [(0, .ref (G.2.2.1 0)), (1, .int a1), (2, .int w_15), (3, .int w_16)] → W p l e rm_X0_needed s m args below meth c H locs 0 0 Q (F0 m 4 ls []) := by
    intro n
    induction n with
    | zero => intro w_15 w_16 σ_17 H locs ls h_18; cases h_18
    | succ n ih =>
      intro w_15 w_16 σ_17 H locs ls h_18 hP hl
      have h_18 : cp_needed_B4 a1 (wl3 (cp_needed_B4 a1) n) w_15 w_16 σ_17 = some _ := h_18
      generalize wl3 (cp_needed_B4 a1) n = rc_19 at h_18 ih
      unfold cp_needed_B4 at h_18
      refine lv_iload_n hx hb dX0_needed_4 rfl (lv_at hl 3 rfl) ?_
      refine lv_aload_n hx hb dX0_needed_5 rfl (lv_at hl 0 rfl) ?_
      refine r_geti X hP 0 cp_c0 lk_0 3 (Nat.le_of_ble_eq_true rfl) q286 cp_f3 dX0_needed_6 ?_
      refine lv_icmp_ge (tgt := 55) hx hb dX0_needed_9 (by decide) (fun c_20 => ?_) (fun c_20 => ?_)
      · have h_18 := it_t h_18 c_20
        obtain ⟨rfl, rfl⟩ := so2 h_18
        exact hE_14 _ _ _ hP (lv_sub hl [2] rfl)
      · have h_18 := it_f h_18 c_20
        refine lv_aload_n hx hb dX0_needed_12 rfl (lv_at hl 0 rfl) ?_
        refine r_geta X hP 0 cp_c0 lk_0 18 (Nat.le_of_ble_eq_true rfl) q307 cp_f18 dX0_needed_13 ?_
        refine lv_aload_n hx hb dX0_needed_16 rfl (lv_at hl 0 rfl) ?_
        refine r_geta X hP 0 cp_c0 lk_0 16 (Nat.le_of_ble_eq_true rfl) q305 cp_f16 dX0_needed_17 ?_
        refine lv_aload_n hx hb dX0_needed_20 rfl (lv_at hl 0 rfl) ?_
        refine r_geti X hP 0 cp_c0 lk_0 6 (Nat.le_of_ble_eq_true rfl) q292 cp_f6 dX0_needed_21 ?_
        refine lv_aload_n hx hb dX0_needed_24 rfl (lv_at hl 0 rfl) ?_
        refine r_geti X hP 0 cp_c0 lk_0 8 (Nat.le_of_ble_eq_true rfl) q295 cp_f8 dX0_needed_25 ?_
        refine lv_iload_n hx hb dX0_needed_28 rfl (lv_at hl 3 rfl) ?_
        obtain ⟨σ_22, e_21, h_18⟩ := bo_ex h_18
        refine r_callv (r_runV (rest := []) X hP (15 + 17 * 1) (mg_c 1 (by decide)) lk_2 (mt_X2_go l G 1 (by decide) σ_17 (gI σ_17 0 6) (gI σ_17 0 8) w_16 e_21) (cwV 4 hts (lw_V q940 q941 q942 q112 q943) rfl rfl rfl ⟨rfl, cdX2_go⟩ ⟨Nat.le_of_ble_eq_true rfl, Nat.le_of_ble_eq_true rfl⟩) rfl hl.1 rfl (Nat.le_of_ble_eq_true rfl) dX0_needed_29 ⟨Nat.le_refl _, Nat.le_refl _⟩) hP (fun H locs hP => ?_)
        refine lv_aload_n hx hb dX0_needed_32 rfl (lv_at hl 0 rfl) ?_
        refine r_geta X hP 0 cp_c0 lk_0 18 (Nat.le_of_ble_eq_true rfl) q307 cp_f18 dX0_needed_33 ?_
        obtain ⟨r_24, e_23, h_18⟩ := bo_ex h_18
        refine r_calli (r_runV (rest := []) X hP (15 + 17 * 1) (mg_c 1 (by decide)) lk_2 (mt_X2_decided l G 1 (by decide) σ_22 e_23) (cwV 0 hts (lw_V q1042 q1043 q1044 q112 q1045) rfl rfl rfl ⟨rfl, cdX2_decided⟩ ⟨Nat.le_of_ble_eq_true rfl, Nat.le_of_ble_eq_true rfl⟩) rfl hl.1 rfl (Nat.le_of_ble_eq_true rfl) dX0_needed_36 ⟨Nat.le_refl _, Nat.le_refl _⟩) hP (fun H locs hP => ?_)
        refine lv_iload_n hx hb dX0_needed_39 rfl (lv_at hl 1 rfl) ?_
        obtain ⟨y_25, h_26, h_18⟩ := bo_ex h_18
        have hJ_27 : ∀ (H : Heap) (locs : List Loc) (ls : Array Slot), PS cp_ft G s σ_22 H locs → lv_has ls 4 [(0, .ref (G.2.2.1 0)), (1, .int a1), (2, .int y_25), (3, .int w_16)] → W p l e rm_X0_needed s m args below meth c H locs 0 0 Q (F0 m 49 ls []) := by
          intro H locs ls hP hl
          refine lv_iinc (v := (w_16 + (1 : Int32))) (lv' := [(3, .int (w_16 + (1 : Int32))), (0, .ref (G.2.2.1 0)), (1, .int a1), (2, .int y_25)]) hx hb dX0_needed_49 hl (k := 3) rfl rfl (by decide) rfl (fun ls hl => ?_)
          refine lv_goto (tgt := 4) hx hb dX0_needed_52 (by decide) ?_
          exact ih _ _ _ _ _ _ h_18 hP (lv_sub hl [1, 2, 3, 0] rfl)
        refine lv_icmp_eq (tgt := 49) hx hb dX0_needed_40 (by decide) (fun c_28 => ?_) (fun c_28 => ?_)
        · have h_26 := it_t h_26 c_28
          obtain rfl := Option.some.inj h_26
          exact hJ_27 _ _ _ hP (lv_sub hl [0, 1, 2, 3] rfl)
        · have h_26 := it_f h_26 c_28
          refine lv_iload_n hx hb dX0_needed_43 rfl (lv_at hl 2 rfl) ?_
          refine lv_iconst (v := (1 : Int32)) hx hb dX0_needed_44 (by decide) ?_
          refine lv_iload_n hx hb dX0_needed_45 rfl (lv_at hl 3 rfl) ?_
          refine lv_ishl hx hb dX0_needed_46 ?_
          refine lv_ior hx hb dX0_needed_47 ?_
          refine lv_istore_n (lv' := [(2, .int (w_15 ||| ((1 : Int32) <<< (w_16 &&& 31)))), (0, .ref (G.2.2.1 0)), (1, .int a1), (3, .int w_16)]) hx hb dX0_needed_48 rfl hl (by decide) rfl (fun ls hl => ?_)
          obtain rfl := Option.some.inj h_26
          exact hJ_27 _ _ _ hP (lv_sub hl [1, 2, 0, 3] rfl)
  exact hL_10 _ _ _ _ _ _ _ h_13 hP (lv_sub hl [2, 3, 1, 0] rfl)
def cp_meet_B218 (rc218 : Int32 → ST → Option (ST)) (w2 : Int32) (σ : ST) : Option (ST) :=
  (if (gI σ 0 4) ≤ w2 then some (σ) else bo (mg_sumOf 0 σ w2) (fun (r_58 : Int32) => ck w2 6 (st_ (aI σ 0 20 w2 r_58) (fun (σ_59 : ST) => (rc218 (w2 + (1 : Int32)) σ_59)))))
def cp_meet_B248 (rc248 : Int32 → ST → Option (ST)) (w2 : Int32) (σ : ST) : Option (ST) :=
  (if (gI σ 0 3) ≤ w2 then some (σ) else bo (mg_thereFor 0 σ w2) (fun (r_67 : Int32) => ck w2 10 (st_ (aI σ 0 21 w2 r_67) (fun (σ_68 : ST) => (rc248 (w2 + (1 : Int32)) σ_68)))))
def cp_meet (σ : ST) (a1 : Int32) : Option (Int32 × ST) :=
  (if a1 < 0 then some ((-1 : Int32), σ) else bo2 (cp_isOrder σ a1) (fun (r_3 : Int32) (σ_4 : ST) => (if r_3 = 0 then some ((-1 : Int32), σ_4) else bo (cp_isEmpty σ_4) (fun (r_7 : Int32) => (if r_7 = 0 then bo (mg_go 0 σ_4 (gI σ_4 0 6) (gI σ_4 0 8) (-1 : Int32)) (fun (σ_10 : ST) => st_ (pI σ_10 0 22 (1 : Int32)) (fun (σ_11 : ST) => st_ (pI σ_11 0 23 (gI σ_11 0 3)) (fun (σ_13 : ST) => st_ (pI σ_13 0 24 (gI σ_13 0 4)) (fun (σ_15 : ST) => st_ (pI σ_15 0 25 (gI σ_15 0 5)) (fun (σ_17 : ST) => ck (0 : Int32) 10 (st_ (aI σ_17 0 19 (0 : Int32) (gI σ_17 (1 + 0) 16)) (fun (σ_19 : ST) => ck (1 : Int32) 10 (st_ (aI σ_19 0 19 (1 : Int32) (gI σ_19 (1 + 0) 17)) (fun (σ_21 : ST) => bo (mg_decided 0 σ_21) (fun (r_24 : Int32) => ck (2 : Int32) 10 (st_ (aI σ_21 0 19 (2 : Int32) r_24) (fun (σ_25 : ST) => bo (mg_heldBack 0 σ_25) (fun (r_28 : Int32) => ck (3 : Int32) 10 (st_ (aI σ_25 0 19 (3 : Int32) r_28) (fun (σ_29 : ST) => ck (2 : Int32) 10 (bo (cp_byAll σ_29) (fun (r_32 : Int32) => ck (4 : Int32) 10 (st_ (aI σ_29 0 19 (4 : Int32) ((lI σ_29 0 19 (2 : Int32)) ^^^ r_32)) (fun (σ_33 : ST) => bo (cp_alone σ_33 (gI σ_33 (1 + 0) 18)) (fun (r_36 : Int32) => ck (5 : Int32) 10 (st_ (aI σ_33 0 19 (5 : Int32) r_36) (fun (σ_37 : ST) => bo (cp_alone σ_37 (-1 : Int32)) (fun (r_40 : Int32) => ck (6 : Int32) 10 (st_ (aI σ_37 0 19 (6 : Int32) r_40) (fun (σ_41 : ST) => bo (mg_cost 0 σ_41) (fun (r_44 : Int32) => ck (7 : Int32) 10 (st_ (aI σ_41 0 19 (7 : Int32) r_44) (fun (σ_45 : ST) => bo (mg_shed 0 σ_45) (fun (r_48 : Int32) => ck (8 : Int32) 10 (st_ (aI σ_45 0 19 (8 : Int32) r_48) (fun (σ_49 : ST) => ck (2 : Int32) 10 (bo2 (cp_needed σ_49 (lI σ_49 0 19 (2 : Int32))) (fun (r_52 : Int32) (σ_53 : ST) => ck (9 : Int32) 10 (st_ (aI σ_53 0 19 (9 : Int32) r_52) (fun (σ_54 : ST) => bo (wl2 (cp_meet_B218 ) FU (0 : Int32) σ_54) (fun (σ_62 : ST) => bo (wl2 (cp_meet_B248 ) FU (0 : Int32) σ_62) (fun (σ_71 : ST) => some ((gI σ_71 (1 + 0) 16), σ_71)))))))))))))))))))))))))))))))))))))) else some ((-5 : Int32), σ_4))))))
abbrev rm_X0_meet : Room := rmf 267 7965
set_option maxHeartbeats 4000000 in
set_option maxRecDepth 100000 in
theorem mt_X0_meet (l : Launch) (G : GT) (σ : ST) (a1 : Int32) {r : Int32} {u : ST} (h : cp_meet σ a1 = some (r, u)) : CI l cp_ft G yX0_meet (ws_ yX0_meet cX0_meet 3 (some .int)) rm_X0_meet 0 0 [.ref (G.2.2.1 0), .int a1] σ (r, u) := by
  refine m_enterI (by decide) rfl (lv := [(0, .ref (G.2.2.1 0)), (1, .int a1)]) rfl ?_
  intro p e s m args below meth c H locs ls Q X hret hP hl
  have hx := X.1.1
  have hb := X.1.2.1
  have hown := X.1.2.2.2.1
  have hts := X.1.2.2.2.2
  unfold cp_meet at h
  refine lv_iload_n hx hb dX0_meet_0 rfl (lv_at hl 1 rfl) ?_
  refine lv_if_lt (tgt := 12) hx hb dX0_meet_1 (by decide) (fun c_1 => ?_) (fun c_1 => ?_)
  · have h := it_t h c_1
    refine lv_iconst (v := (-1 : Int32)) hx hb dX0_meet_12 (by decide) ?_
    exact hret _ _ _ _ _ _ dX0_meet_13 rfl (Option.some.inj h) hP
  · have h := it_f h c_1
    refine lv_aload_n hx hb dX0_meet_4 rfl (lv_at hl 0 rfl) ?_
    refine lv_iload_n hx hb dX0_meet_5 rfl (lv_at hl 1 rfl) ?_
    obtain ⟨r_3, σ_4, e_2, h⟩ := bo2_ex h
    refine r_calli (r_runV (rest := []) X hP 0 cp_c0 lk_0 (mt_X0_isOrder l G σ a1 e_2) (cwV 1 hts (lw_V q928 q930 qs20 q110 q931) rfl rfl rfl ⟨rfl, cdX0_isOrder⟩ ⟨Nat.le_of_ble_eq_true rfl, Nat.le_of_ble_eq_true rfl⟩) rfl hl.1 rfl (Nat.le_of_ble_eq_true rfl) dX0_meet_6 ⟨Nat.le_refl _, Nat.le_refl _⟩) hP (fun H locs hP => ?_)
    refine lv_if_ne (tgt := 14) hx hb dX0_meet_9 (by decide) (fun c_5 => ?_) (fun c_5 => ?_)
    · have h := it_f h c_5
      refine lv_aload_n hx hb dX0_meet_14 rfl (lv_at hl 0 rfl) ?_
      obtain ⟨r_7, e_6, h⟩ := bo_ex h
      refine r_calli (r_runV (rest := []) X hP 0 cp_c0 lk_0 (mt_X0_isEmpty l G σ_4 e_6) (cwV 0 hts (lw_V q936 q938 qs22 q110 q939) rfl rfl rfl ⟨rfl, cdX0_isEmpty⟩ ⟨Nat.le_of_ble_eq_true rfl, Nat.le_of_ble_eq_true rfl⟩) rfl hl.1 rfl (Nat.le_of_ble_eq_true rfl) dX0_meet_15 ⟨Nat.le_refl _, Nat.le_refl _⟩) hP (fun H locs hP => ?_)
      refine lv_if_eq (tgt := 24) hx hb dX0_meet_18 (by decide) (fun c_8 => ?_) (fun c_8 => ?_)
      · have h := it_t h c_8
        refine lv_aload_n hx hb dX0_meet_24 rfl (lv_at hl 0 rfl) ?_
        refine r_geta X hP 0 cp_c0 lk_0 17 (Nat.le_of_ble_eq_true rfl) q306 cp_f17 dX0_meet_25 ?_
        refine lv_aload_n hx hb dX0_meet_28 rfl (lv_at hl 0 rfl) ?_
        refine r_geta X hP 0 cp_c0 lk_0 16 (Nat.le_of_ble_eq_true rfl) q305 cp_f16 dX0_meet_29 ?_
        refine lv_aload_n hx hb dX0_meet_32 rfl (lv_at hl 0 rfl) ?_
        refine r_geti X hP 0 cp_c0 lk_0 6 (Nat.le_of_ble_eq_true rfl) q292 cp_f6 dX0_meet_33 ?_
        refine lv_aload_n hx hb dX0_meet_36 rfl (lv_at hl 0 rfl) ?_
        refine r_geti X hP 0 cp_c0 lk_0 8 (Nat.le_of_ble_eq_true rfl) q295 cp_f8 dX0_meet_37 ?_
        refine lv_iconst (v := (-1 : Int32)) hx hb dX0_meet_40 (by decide) ?_
        obtain ⟨σ_10, e_9, h⟩ := bo_ex h
        refine r_callv (r_runV (rest := []) X hP (15 + 17 * 0) (mg_c 0 (by decide)) lk_2 (mt_X2_go l G 0 (by decide) σ_4 (gI σ_4 0 6) (gI σ_4 0 8) (-1 : Int32) e_9) (cwV 4 hts (lw_V q940 q941 q942 q112 q943) rfl rfl rfl ⟨rfl, cdX2_go⟩ ⟨Nat.le_of_ble_eq_true rfl, Nat.le_of_ble_eq_true rfl⟩) rfl hl.1 rfl (Nat.le_of_ble_eq_true rfl) dX0_meet_41 ⟨Nat.le_refl _, Nat.le_refl _⟩) hP (fun H locs hP => ?_)
        refine lv_aload_n hx hb dX0_meet_44 rfl (lv_at hl 0 rfl) ?_
        refine lv_iconst (v := (1 : Int32)) hx hb dX0_meet_45 (by decide) ?_
        refine r_puti X cp_w hP 0 cp_c0 lk_0 22 (Nat.le_of_ble_eq_true rfl) q311 cp_f22 rfl (tyX0_ok 22 (by decide)) rfl rfl dX0_meet_46 (fun σ_11 H locs e_12 hP => ?_)
        have h := st_k h e_12
        refine lv_aload_n hx hb dX0_meet_49 rfl (lv_at hl 0 rfl) ?_
        refine lv_aload_n hx hb dX0_meet_50 rfl (lv_at hl 0 rfl) ?_
        refine r_geti X hP 0 cp_c0 lk_0 3 (Nat.le_of_ble_eq_true rfl) q286 cp_f3 dX0_meet_51 ?_
        refine r_puti X cp_w hP 0 cp_c0 lk_0 23 (Nat.le_of_ble_eq_true rfl) q312 cp_f23 rfl (tyX0_ok 23 (by decide)) rfl rfl dX0_meet_54 (fun σ_13 H locs e_14 hP => ?_)
        have h := st_k h e_14
        refine lv_aload_n hx hb dX0_meet_57 rfl (lv_at hl 0 rfl) ?_
        refine lv_aload_n hx hb dX0_meet_58 rfl (lv_at hl 0 rfl) ?_
        refine r_geti X hP 0 cp_c0 lk_0 4 (Nat.le_of_ble_eq_true rfl) q289 cp_f4 dX0_meet_59 ?_
        refine r_puti X cp_w hP 0 cp_c0 lk_0 24 (Nat.le_of_ble_eq_true rfl) q313 cp_f24 rfl (tyX0_ok 24 (by decide)) rfl rfl dX0_meet_62 (fun σ_15 H locs e_16 hP => ?_)
        have h := st_k h e_16
        refine lv_aload_n hx hb dX0_meet_65 rfl (lv_at hl 0 rfl) ?_
        refine lv_aload_n hx hb dX0_meet_66 rfl (lv_at hl 0 rfl) ?_
        refine r_geti X hP 0 cp_c0 lk_0 5 (Nat.le_of_ble_eq_true rfl) q291 cp_f5 dX0_meet_67 ?_
        refine r_puti X cp_w hP 0 cp_c0 lk_0 25 (Nat.le_of_ble_eq_true rfl) q314 cp_f25 rfl (tyX0_ok 25 (by decide)) rfl rfl dX0_meet_70 (fun σ_17 H locs e_18 hP => ?_)
        have h := st_k h e_18
        refine lv_aload_n hx hb dX0_meet_73 rfl (lv_at hl 0 rfl) ?_
        refine r_geta X hP 0 cp_c0 lk_0 19 (Nat.le_of_ble_eq_true rfl) q308 cp_f19 dX0_meet_74 ?_
        refine lv_iconst (v := (0 : Int32)) hx hb dX0_meet_77 (by decide) ?_
        refine lv_aload_n hx hb dX0_meet_78 rfl (lv_at hl 0 rfl) ?_
        refine r_geta X hP 0 cp_c0 lk_0 17 (Nat.le_of_ble_eq_true rfl) q306 cp_f17 dX0_meet_79 ?_
        refine r_getiN X hP (15 + 17 * 0) (mg_c 0 (by decide)) lk_2 16 (Nat.le_of_ble_eq_true rfl) q223 (mg_f16 0) dX0_meet_82 ?_
        refine r_iast X cp_w hP 7 cp_c7 (ck_in h) dX0_meet_85 (fun σ_19 H locs e_20 hP => ?_)
        have h := st_k (ck_k h) e_20
        refine lv_aload_n hx hb dX0_meet_86 rfl (lv_at hl 0 rfl) ?_
        refine r_geta X hP 0 cp_c0 lk_0 19 (Nat.le_of_ble_eq_true rfl) q308 cp_f19 dX0_meet_87 ?_
        refine lv_iconst (v := (1 : Int32)) hx hb dX0_meet_90 (by decide) ?_
        refine lv_aload_n hx hb dX0_meet_91 rfl (lv_at hl 0 rfl) ?_
        refine r_geta X hP 0 cp_c0 lk_0 17 (Nat.le_of_ble_eq_true rfl) q306 cp_f17 dX0_meet_92 ?_
        refine r_getiN X hP (15 + 17 * 0) (mg_c 0 (by decide)) lk_2 17 (Nat.le_of_ble_eq_true rfl) q225 (mg_f17 0) dX0_meet_95 ?_
        refine r_iast X cp_w hP 7 cp_c7 (ck_in h) dX0_meet_98 (fun σ_21 H locs e_22 hP => ?_)
        have h := st_k (ck_k h) e_22
        refine lv_aload_n hx hb dX0_meet_99 rfl (lv_at hl 0 rfl) ?_
        refine r_geta X hP 0 cp_c0 lk_0 19 (Nat.le_of_ble_eq_true rfl) q308 cp_f19 dX0_meet_100 ?_
        refine lv_iconst (v := (2 : Int32)) hx hb dX0_meet_103 (by decide) ?_
        refine lv_aload_n hx hb dX0_meet_104 rfl (lv_at hl 0 rfl) ?_
        refine r_geta X hP 0 cp_c0 lk_0 17 (Nat.le_of_ble_eq_true rfl) q306 cp_f17 dX0_meet_105 ?_
        obtain ⟨r_24, e_23, h⟩ := bo_ex h
        refine r_calli (r_runV (rest := [.int (2 : Int32), .ref (G.2.2.1 7)]) X hP (15 + 17 * 0) (mg_c 0 (by decide)) lk_2 (mt_X2_decided l G 0 (by decide) σ_21 e_23) (cwV 0 hts (lw_V q1042 q1043 q1044 q112 q1045) rfl rfl rfl ⟨rfl, cdX2_decided⟩ ⟨Nat.le_of_ble_eq_true rfl, Nat.le_of_ble_eq_true rfl⟩) rfl hl.1 rfl (Nat.le_of_ble_eq_true rfl) dX0_meet_108 ⟨Nat.le_refl _, Nat.le_refl _⟩) hP (fun H locs hP => ?_)
        refine r_iast X cp_w hP 7 cp_c7 (ck_in h) dX0_meet_111 (fun σ_25 H locs e_26 hP => ?_)
        have h := st_k (ck_k h) e_26
        refine lv_aload_n hx hb dX0_meet_112 rfl (lv_at hl 0 rfl) ?_
        refine r_geta X hP 0 cp_c0 lk_0 19 (Nat.le_of_ble_eq_true rfl) q308 cp_f19 dX0_meet_113 ?_
        refine lv_iconst (v := (3 : Int32)) hx hb dX0_meet_116 (by decide) ?_
        refine lv_aload_n hx hb dX0_meet_117 rfl (lv_at hl 0 rfl) ?_
        refine r_geta X hP 0 cp_c0 lk_0 17 (Nat.le_of_ble_eq_true rfl) q306 cp_f17 dX0_meet_118 ?_
        obtain ⟨r_28, e_27, h⟩ := bo_ex h
        refine r_calli (r_runV (rest := [.int (3 : Int32), .ref (G.2.2.1 7)]) X hP (15 + 17 * 0) (mg_c 0 (by decide)) lk_2 (mt_X2_heldBack l G 0 (by decide) σ_25 e_27) (cwV 0 hts (lw_V q1050 q1051 q1052 q112 q1053) rfl rfl rfl ⟨rfl, cdX2_heldBack⟩ ⟨Nat.le_of_ble_eq_true rfl, Nat.le_of_ble_eq_true rfl⟩) rfl hl.1 rfl (Nat.le_of_ble_eq_true rfl) dX0_meet_121 ⟨Nat.le_refl _, Nat.le_refl _⟩) hP (fun H locs hP => ?_)
        refine r_iast X cp_w hP 7 cp_c7 (ck_in h) dX0_meet_124 (fun σ_29 H locs e_30 hP => ?_)
        have h := st_k (ck_k h) e_30
        refine lv_aload_n hx hb dX0_meet_125 rfl (lv_at hl 0 rfl) ?_
        refine r_geta X hP 0 cp_c0 lk_0 19 (Nat.le_of_ble_eq_true rfl) q308 cp_f19 dX0_meet_126 ?_
        refine lv_iconst (v := (4 : Int32)) hx hb dX0_meet_129 (by decide) ?_
        refine lv_aload_n hx hb dX0_meet_130 rfl (lv_at hl 0 rfl) ?_
        refine r_geta X hP 0 cp_c0 lk_0 19 (Nat.le_of_ble_eq_true rfl) q308 cp_f19 dX0_meet_131 ?_
        refine lv_iconst (v := (2 : Int32)) hx hb dX0_meet_134 (by decide) ?_
        refine r_iald X hP 7 cp_c7 (ck_in h) dX0_meet_135 ?_
        have h := ck_k h
        refine lv_aload_n hx hb dX0_meet_136 rfl (lv_at hl 0 rfl) ?_
        obtain ⟨r_32, e_31, h⟩ := bo_ex h
        refine r_calli (r_runV (rest := [.int (lI σ_29 0 19 (2 : Int32)), .int (4 : Int32), .ref (G.2.2.1 7)]) X hP 0 cp_c0 lk_0 (mt_X0_byAll l G σ_29 e_31) (cwV 0 hts (lw_V q1054 q1056 qs38 q110 q1057) rfl rfl rfl ⟨rfl, cdX0_byAll⟩ ⟨Nat.le_of_ble_eq_true rfl, Nat.le_of_ble_eq_true rfl⟩) rfl hl.1 rfl (Nat.le_of_ble_eq_true rfl) dX0_meet_137 ⟨Nat.le_refl _, Nat.le_refl _⟩) hP (fun H locs hP => ?_)
        refine lv_ixor hx hb dX0_meet_140 ?_
        refine r_iast X cp_w hP 7 cp_c7 (ck_in h) dX0_meet_141 (fun σ_33 H locs e_34 hP => ?_)
        have h := st_k (ck_k h) e_34
        refine lv_aload_n hx hb dX0_meet_142 rfl (lv_at hl 0 rfl) ?_
        refine r_geta X hP 0 cp_c0 lk_0 19 (Nat.le_of_ble_eq_true rfl) q308 cp_f19 dX0_meet_143 ?_
        refine lv_iconst (v := (5 : Int32)) hx hb dX0_meet_146 (by decide) ?_
        refine lv_aload_n hx hb dX0_meet_147 rfl (lv_at hl 0 rfl) ?_
        refine lv_aload_n hx hb dX0_meet_148 rfl (lv_at hl 0 rfl) ?_
        refine r_geta X hP 0 cp_c0 lk_0 17 (Nat.le_of_ble_eq_true rfl) q306 cp_f17 dX0_meet_149 ?_
        refine r_getiN X hP (15 + 17 * 0) (mg_c 0 (by decide)) lk_2 18 (Nat.le_of_ble_eq_true rfl) q227 (mg_f18 0) dX0_meet_152 ?_
        obtain ⟨r_36, e_35, h⟩ := bo_ex h
        refine r_calli (r_runV (rest := [.int (5 : Int32), .ref (G.2.2.1 7)]) X hP 0 cp_c0 lk_0 (mt_X0_alone l G σ_33 (gI σ_33 (1 + 0) 18) e_35) (cwV 1 hts (lw_V q1062 q1064 qs40 q110 q1065) rfl rfl rfl ⟨rfl, cdX0_alone⟩ ⟨Nat.le_of_ble_eq_true rfl, Nat.le_of_ble_eq_true rfl⟩) rfl hl.1 rfl (Nat.le_of_ble_eq_true rfl) dX0_meet_155 ⟨Nat.le_refl _, Nat.le_refl _⟩) hP (fun H locs hP => ?_)
        refine r_iast X cp_w hP 7 cp_c7 (ck_in h) dX0_meet_158 (fun σ_37 H locs e_38 hP => ?_)
        have h := st_k (ck_k h) e_38
        refine lv_aload_n hx hb dX0_meet_159 rfl (lv_at hl 0 rfl) ?_
        refine r_geta X hP 0 cp_c0 lk_0 19 (Nat.le_of_ble_eq_true rfl) q308 cp_f19 dX0_meet_160 ?_
        refine lv_bipush (v := (6 : Int32)) hx hb dX0_meet_163 (by decide) ?_
        refine lv_aload_n hx hb dX0_meet_165 rfl (lv_at hl 0 rfl) ?_
        refine lv_iconst (v := (-1 : Int32)) hx hb dX0_meet_166 (by decide) ?_
        obtain ⟨r_40, e_39, h⟩ := bo_ex h
        refine r_calli (r_runV (rest := [.int (6 : Int32), .ref (G.2.2.1 7)]) X hP 0 cp_c0 lk_0 (mt_X0_alone l G σ_37 (-1 : Int32) e_39) (cwV 1 hts (lw_V q1062 q1064 qs40 q110 q1065) rfl rfl rfl ⟨rfl, cdX0_alone⟩ ⟨Nat.le_of_ble_eq_true rfl, Nat.le_of_ble_eq_true rfl⟩) rfl hl.1 rfl (Nat.le_of_ble_eq_true rfl) dX0_meet_167 ⟨Nat.le_refl _, Nat.le_refl _⟩) hP (fun H locs hP => ?_)
        refine r_iast X cp_w hP 7 cp_c7 (ck_in h) dX0_meet_170 (fun σ_41 H locs e_42 hP => ?_)
        have h := st_k (ck_k h) e_42
        refine lv_aload_n hx hb dX0_meet_171 rfl (lv_at hl 0 rfl) ?_
        refine r_geta X hP 0 cp_c0 lk_0 19 (Nat.le_of_ble_eq_true rfl) q308 cp_f19 dX0_meet_172 ?_
        refine lv_bipush (v := (7 : Int32)) hx hb dX0_meet_175 (by decide) ?_
        refine lv_aload_n hx hb dX0_meet_177 rfl (lv_at hl 0 rfl) ?_
        refine r_geta X hP 0 cp_c0 lk_0 17 (Nat.le_of_ble_eq_true rfl) q306 cp_f17 dX0_meet_178 ?_
        obtain ⟨r_44, e_43, h⟩ := bo_ex h
        refine r_calli (r_runV (rest := [.int (7 : Int32), .ref (G.2.2.1 7)]) X hP (15 + 17 * 0) (mg_c 0 (by decide)) lk_2 (mt_X2_cost l G 0 (by decide) σ_41 e_43) (cwV 0 hts (lw_V q1072 q1073 q1074 q112 q1075) rfl rfl rfl ⟨rfl, cdX2_cost⟩ ⟨Nat.le_of_ble_eq_true rfl, Nat.le_of_ble_eq_true rfl⟩) rfl hl.1 rfl (Nat.le_of_ble_eq_true rfl) dX0_meet_181 ⟨Nat.le_refl _, Nat.le_refl _⟩) hP (fun H locs hP => ?_)
        refine r_iast X cp_w hP 7 cp_c7 (ck_in h) dX0_meet_184 (fun σ_45 H locs e_46 hP => ?_)
        have h := st_k (ck_k h) e_46
        refine lv_aload_n hx hb dX0_meet_185 rfl (lv_at hl 0 rfl) ?_
        refine r_geta X hP 0 cp_c0 lk_0 19 (Nat.le_of_ble_eq_true rfl) q308 cp_f19 dX0_meet_186 ?_
        refine lv_bipush (v := (8 : Int32)) hx hb dX0_meet_189 (by decide) ?_
        refine lv_aload_n hx hb dX0_meet_191 rfl (lv_at hl 0 rfl) ?_
        refine r_geta X hP 0 cp_c0 lk_0 17 (Nat.le_of_ble_eq_true rfl) q306 cp_f17 dX0_meet_192 ?_
        obtain ⟨r_48, e_47, h⟩ := bo_ex h
        refine r_calli (r_runV (rest := [.int (8 : Int32), .ref (G.2.2.1 7)]) X hP (15 + 17 * 0) (mg_c 0 (by decide)) lk_2 (mt_X2_shed l G 0 (by decide) σ_45 e_47) (cwV 0 hts (lw_V q1080 q1081 q1082 q112 q1083) rfl rfl rfl ⟨rfl, cdX2_shed⟩ ⟨Nat.le_of_ble_eq_true rfl, Nat.le_of_ble_eq_true rfl⟩) rfl hl.1 rfl (Nat.le_of_ble_eq_true rfl) dX0_meet_195 ⟨Nat.le_refl _, Nat.le_refl _⟩) hP (fun H locs hP => ?_)
        refine r_iast X cp_w hP 7 cp_c7 (ck_in h) dX0_meet_198 (fun σ_49 H locs e_50 hP => ?_)
        have h := st_k (ck_k h) e_50
        refine lv_aload_n hx hb dX0_meet_199 rfl (lv_at hl 0 rfl) ?_
        refine r_geta X hP 0 cp_c0 lk_0 19 (Nat.le_of_ble_eq_true rfl) q308 cp_f19 dX0_meet_200 ?_
        refine lv_bipush (v := (9 : Int32)) hx hb dX0_meet_203 (by decide) ?_
        refine lv_aload_n hx hb dX0_meet_205 rfl (lv_at hl 0 rfl) ?_
        refine lv_aload_n hx hb dX0_meet_206 rfl (lv_at hl 0 rfl) ?_
        refine r_geta X hP 0 cp_c0 lk_0 19 (Nat.le_of_ble_eq_true rfl) q308 cp_f19 dX0_meet_207 ?_
        refine lv_iconst (v := (2 : Int32)) hx hb dX0_meet_210 (by decide) ?_
        refine r_iald X hP 7 cp_c7 (ck_in h) dX0_meet_211 ?_
        have h := ck_k h
        obtain ⟨r_52, σ_53, e_51, h⟩ := bo2_ex h
        refine r_calli (r_runV (rest := [.int (9 : Int32), .ref (G.2.2.1 7)]) X hP 0 cp_c0 lk_0 (mt_X0_needed l G σ_49 (lI σ_49 0 19 (2 : Int32)) e_51) (cwV 1 hts (lw_V q1087 q1089 qs41 q110 q1090) rfl rfl rfl ⟨rfl, cdX0_needed⟩ ⟨Nat.le_of_ble_eq_true rfl, Nat.le_of_ble_eq_true rfl⟩) rfl hl.1 rfl (Nat.le_of_ble_eq_true rfl) dX0_meet_212 ⟨Nat.le_refl _, Nat.le_refl _⟩) hP (fun H locs hP => ?_)
        refine r_iast X cp_w hP 7 cp_c7 (ck_in h) dX0_meet_215 (fun σ_54 H locs e_55 hP => ?_)
        have h := st_k (ck_k h) e_55
        refine lv_iconst (v := (0 : Int32)) hx hb dX0_meet_216 (by decide) ?_
        refine lv_istore_n (lv' := [(2, .int (0 : Int32)), (0, .ref (G.2.2.1 0)), (1, .int a1)]) hx hb dX0_meet_217 rfl hl (by decide) rfl (fun ls hl => ?_)
        obtain ⟨σ_62, h_63, h⟩ := bo_ex h
        have hE_64 : ∀ (H : Heap) (locs : List Loc) (ls : Array Slot), PS cp_ft G s σ_62 H locs → lv_has ls 3 [(0, .ref (G.2.2.1 0))] → W p l e rm_X0_meet s m args below meth c H locs 0 0 Q (F0 m 246 ls []) := by
          intro H locs ls hP hl
          refine lv_iconst (v := (0 : Int32)) hx hb dX0_meet_246 (by decide) ?_
          refine lv_istore_n (lv' := [(2, .int (0 : Int32)), (0, .ref (G.2.2.1 0))]) hx hb dX0_meet_247 rfl hl (by decide) rfl (fun ls hl => ?_)
          obtain ⟨σ_71, h_72, h⟩ := bo_ex h
          have hE_73 : ∀ (H : Heap) (locs : List Loc) (ls : Array Slot), PS cp_ft G s σ_71 H locs → lv_has ls 3 [(0, .ref (G.2.2.1 0))] → W p l e rm_X0_meet s m args below meth c H locs 0 0 Q (F0 m 276 ls []) := by
            intro H locs ls hP hl
            refine lv_aload_n hx hb dX0_meet_276 rfl (lv_at hl 0 rfl) ?_
            refine r_geta X hP 0 cp_c0 lk_0 17 (Nat.le_of_ble_eq_true rfl) q306 cp_f17 dX0_meet_277 ?_
            refine r_getiN X hP (15 + 17 * 0) (mg_c 0 (by decide)) lk_2 16 (Nat.le_of_ble_eq_true rfl) q223 (mg_f16 0) dX0_meet_280 ?_
            exact hret _ _ _ _ _ _ dX0_meet_283 rfl (Option.some.inj h) hP
          have hL_70 : ∀ (n : Nat) (w_74 : Int32) (σ_75 : ST) (H : Heap) (locs : List Loc) (ls : Array Slot), wl2 (cp_meet_B248 ) n w_74 σ_75 = some σ_71 → PS cp_ft G s σ_75 H locs → lv_has ls 3 [(0, .ref (G.2.2.1 0)), (2, .int w_74)] → W p l e rm_X0_meet s m args below meth c H locs 0 0 Q (F0 m 248 ls []) := by
            intro n
            induction n with
            | zero => intro w_74 σ_75 H locs ls h_76; cases h_76
            | succ n ih =>
              intro w_74 σ_75 H locs ls h_76 hP hl
              have h_76 : cp_meet_B248  (wl2 (cp_meet_B248 ) n) w_74 σ_75 = some _ := h_76
              generalize wl2 (cp_meet_B248 ) n = rc_77 at h_76 ih
              unfold cp_meet_B248 at h_76
              refine lv_iload_n hx hb dX0_meet_248 rfl (lv_at hl 1 rfl) ?_
              refine lv_aload_n hx hb dX0_meet_249 rfl (lv_at hl 0 rfl) ?_
              refine r_geti X hP 0 cp_c0 lk_0 3 (Nat.le_of_ble_eq_true rfl) q286 cp_f3 dX0_meet_250 ?_
              refine lv_icmp_ge (tgt := 276) hx hb dX0_meet_253 (by decide) (fun c_78 => ?_) (fun c_78 => ?_)
              · have h_76 := it_t h_76 c_78
                obtain rfl := Option.some.inj h_76
                exact hE_73 _ _ _ hP (lv_sub hl [0] rfl)
              · have h_76 := it_f h_76 c_78
                refine lv_aload_n hx hb dX0_meet_256 rfl (lv_at hl 0 rfl) ?_
                refine r_geta X hP 0 cp_c0 lk_0 21 (Nat.le_of_ble_eq_true rfl) q310 cp_f21 dX0_meet_257 ?_
                refine lv_iload_n hx hb dX0_meet_260 rfl (lv_at hl 1 rfl) ?_
                refine lv_aload_n hx hb dX0_meet_261 rfl (lv_at hl 0 rfl) ?_
                refine r_geta X hP 0 cp_c0 lk_0 17 (Nat.le_of_ble_eq_true rfl) q306 cp_f17 dX0_meet_262 ?_
                refine lv_iload_n hx hb dX0_meet_265 rfl (lv_at hl 1 rfl) ?_
                obtain ⟨r_80, e_79, h_76⟩ := bo_ex h_76
                refine r_calli (r_runV (rest := [.int w_74, .ref (G.2.2.1 9)]) X hP (15 + 17 * 0) (mg_c 0 (by decide)) lk_2 (mt_X2_thereFor l G 0 (by decide) σ_75 w_74 e_79) (cwV 1 hts (lw_V q1092 q1077 q1078 q112 q1079) rfl rfl rfl ⟨rfl, cdX2_thereFor⟩ ⟨Nat.le_of_ble_eq_true rfl, Nat.le_of_ble_eq_true rfl⟩) rfl hl.1 rfl (Nat.le_of_ble_eq_true rfl) dX0_meet_266 ⟨Nat.le_refl _, Nat.le_refl _⟩) hP (fun H locs hP => ?_)
                refine r_iast X cp_w hP 9 cp_c9 (ck_in h_76) dX0_meet_269 (fun σ_81 H locs e_82 hP => ?_)
                have h_76 := st_k (ck_k h_76) e_82
                refine lv_iinc (v := (w_74 + (1 : Int32))) (lv' := [(2, .int (w_74 + (1 : Int32))), (0, .ref (G.2.2.1 0))]) hx hb dX0_meet_270 hl (k := 1) rfl rfl (by decide) rfl (fun ls hl => ?_)
                refine lv_goto (tgt := 248) hx hb dX0_meet_273 (by decide) ?_
                exact ih _ _ _ _ _ h_76 hP (lv_sub hl [1, 0] rfl)
          exact hL_70 _ _ _ _ _ _ h_72 hP (lv_sub hl [1, 0] rfl)
        have hL_61 : ∀ (n : Nat) (w_83 : Int32) (σ_84 : ST) (H : Heap) (locs : List Loc) (ls : Array Slot), wl2 (cp_meet_B218 ) n w_83 σ_84 = some σ_62 → PS cp_ft G s σ_84 H locs → lv_has ls 3 [(0, .ref (G.2.2.1 0)), (2, .int w_83)] → W p l e rm_X0_meet s m args below meth c H locs 0 0 Q (F0 m 218 ls []) := by
          intro n
          induction n with
          | zero => intro w_83 σ_84 H locs ls h_85; cases h_85
          | succ n ih =>
            intro w_83 σ_84 H locs ls h_85 hP hl
            have h_85 : cp_meet_B218  (wl2 (cp_meet_B218 ) n) w_83 σ_84 = some _ := h_85
            generalize wl2 (cp_meet_B218 ) n = rc_86 at h_85 ih
            unfold cp_meet_B218 at h_85
            refine lv_iload_n hx hb dX0_meet_218 rfl (lv_at hl 1 rfl) ?_
            refine lv_aload_n hx hb dX0_meet_219 rfl (lv_at hl 0 rfl) ?_
            refine r_geti X hP 0 cp_c0 lk_0 4 (Nat.le_of_ble_eq_true rfl) q289 cp_f4 dX0_meet_220 ?_
            refine lv_icmp_ge (tgt := 246) hx hb dX0_meet_223 (by decide) (fun c_87 => ?_) (fun c_87 => ?_)
            · have h_85 := it_t h_85 c_87
              obtain rfl := Option.some.inj h_85
              exact hE_64 _ _ _ hP (lv_sub hl [0] rfl)
            · have h_85 := it_f h_85 c_87
              refine lv_aload_n hx hb dX0_meet_226 rfl (lv_at hl 0 rfl) ?_
              refine r_geta X hP 0 cp_c0 lk_0 20 (Nat.le_of_ble_eq_true rfl) q309 cp_f20 dX0_meet_227 ?_
              refine lv_iload_n hx hb dX0_meet_230 rfl (lv_at hl 1 rfl) ?_
              refine lv_aload_n hx hb dX0_meet_231 rfl (lv_at hl 0 rfl) ?_
              refine r_geta X hP 0 cp_c0 lk_0 17 (Nat.le_of_ble_eq_true rfl) q306 cp_f17 dX0_meet_232 ?_
              refine lv_iload_n hx hb dX0_meet_235 rfl (lv_at hl 1 rfl) ?_
              obtain ⟨r_89, e_88, h_85⟩ := bo_ex h_85
              refine r_calli (r_runV (rest := [.int w_83, .ref (G.2.2.1 8)]) X hP (15 + 17 * 0) (mg_c 0 (by decide)) lk_2 (mt_X2_sumOf l G 0 (by decide) σ_84 w_83 e_88) (cwV 1 hts (lw_V q1091 q1047 q1048 q112 q1049) rfl rfl rfl ⟨rfl, cdX2_sumOf⟩ ⟨Nat.le_of_ble_eq_true rfl, Nat.le_of_ble_eq_true rfl⟩) rfl hl.1 rfl (Nat.le_of_ble_eq_true rfl) dX0_meet_236 ⟨Nat.le_refl _, Nat.le_refl _⟩) hP (fun H locs hP => ?_)
              refine r_iast X cp_w hP 8 cp_c8 (ck_in h_85) dX0_meet_239 (fun σ_90 H locs e_91 hP => ?_)
              have h_85 := st_k (ck_k h_85) e_91
              refine lv_iinc (v := (w_83 + (1 : Int32))) (lv' := [(2, .int (w_83 + (1 : Int32))), (0, .ref (G.2.2.1 0))]) hx hb dX0_meet_240 hl (k := 1) rfl rfl (by decide) rfl (fun ls hl => ?_)
              refine lv_goto (tgt := 218) hx hb dX0_meet_243 (by decide) ?_
              exact ih _ _ _ _ _ h_85 hP (lv_sub hl [1, 0] rfl)
        exact hL_61 _ _ _ _ _ _ h_63 hP (lv_sub hl [1, 0] rfl)
      · have h := it_f h c_8
        refine lv_bipush (v := (-5 : Int32)) hx hb dX0_meet_21 (by decide) ?_
        exact hret _ _ _ _ _ _ dX0_meet_23 rfl (Option.some.inj h) hP
    · have h := it_t h c_5
      refine lv_iconst (v := (-1 : Int32)) hx hb dX0_meet_12 (by decide) ?_
      exact hret _ _ _ _ _ _ dX0_meet_13 rfl (Option.some.inj h) hP
def cp_told (σ : ST) (a1 : Int32) : Option Int32 :=
  bo (cp_in a1 (0 : Int32) (9 : Int32)) (fun (r_2 : Int32) => (if r_2 = 0 then some (-1 : Int32) else (if (gI σ 0 22) = 0 then some (-5 : Int32) else ck a1 10 (some (lI σ 0 19 a1)))))
abbrev rm_X0_told : Room := rmf 1 22
set_option maxHeartbeats 4000000 in
set_option maxRecDepth 100000 in
theorem mt_X0_told (l : Launch) (G : GT) (σ : ST) (a1 : Int32) {r : Int32} (h : cp_told σ a1 = some r) : CI l cp_ft G yX0_told (ws_ yX0_told cX0_told 2 (some .int)) rm_X0_told 0 0 [.ref (G.2.2.1 0), .int a1] σ (r, σ) := by
  refine m_enterI (by decide) rfl (lv := [(0, .ref (G.2.2.1 0)), (1, .int a1)]) rfl ?_
  intro p e s m args below meth c H locs ls Q X hret hP hl
  have hx := X.1.1
  have hb := X.1.2.1
  have hown := X.1.2.2.2.1
  have hts := X.1.2.2.2.2
  unfold cp_told at h
  refine lv_iload_n hx hb dX0_told_0 rfl (lv_at hl 1 rfl) ?_
  refine lv_iconst (v := (0 : Int32)) hx hb dX0_told_1 (by decide) ?_
  refine lv_bipush (v := (9 : Int32)) hx hb dX0_told_2 (by decide) ?_
  obtain ⟨r_2, e_1, h⟩ := bo_ex h
  refine r_calli (r_runS (rest := []) X hP (mt_X0_in l G σ a1 (0 : Int32) (9 : Int32) e_1) (va_cwS 3 hts (lw_S q396 q397 q110 q398) rfl rfl rfl cdX0_in ⟨Nat.le_of_ble_eq_true rfl, Nat.le_of_ble_eq_true rfl⟩) rfl hl.1 rfl (Nat.le_of_ble_eq_true rfl) dX0_told_4 ⟨Nat.le_refl _, Nat.le_refl _⟩) hP (fun H locs hP => ?_)
  refine lv_if_ne (tgt := 14) hx hb dX0_told_7 (by decide) (fun c_3 => ?_) (fun c_3 => ?_)
  · have h := it_f h c_3
    refine lv_aload_n hx hb dX0_told_14 rfl (lv_at hl 0 rfl) ?_
    refine r_geti X hP 0 cp_c0 lk_0 22 (Nat.le_of_ble_eq_true rfl) q311 cp_f22 dX0_told_15 ?_
    refine lv_if_eq (tgt := 30) hx hb dX0_told_18 (by decide) (fun c_4 => ?_) (fun c_4 => ?_)
    · have h := it_t h c_4
      refine lv_bipush (v := (-5 : Int32)) hx hb dX0_told_30 (by decide) ?_
      exact hret _ _ _ _ _ _ dX0_told_32 rfl (congrArg (fun z9 => (z9, σ)) (Option.some.inj h)) hP
    · have h := it_f h c_4
      refine lv_aload_n hx hb dX0_told_21 rfl (lv_at hl 0 rfl) ?_
      refine r_geta X hP 0 cp_c0 lk_0 19 (Nat.le_of_ble_eq_true rfl) q308 cp_f19 dX0_told_22 ?_
      refine lv_iload_n hx hb dX0_told_25 rfl (lv_at hl 1 rfl) ?_
      refine r_iald X hP 7 cp_c7 (ck_in h) dX0_told_26 ?_
      have h := ck_k h
      refine lv_goto (tgt := 32) hx hb dX0_told_27 (by decide) ?_
      exact hret _ _ _ _ _ _ dX0_told_32 rfl (congrArg (fun z9 => (z9, σ)) (Option.some.inj h)) hP
  · have h := it_t h c_3
    refine lv_iconst (v := (-1 : Int32)) hx hb dX0_told_10 (by decide) ?_
    refine lv_goto (tgt := 32) hx hb dX0_told_11 (by decide) ?_
    exact hret _ _ _ _ _ _ dX0_told_32 rfl (congrArg (fun z9 => (z9, σ)) (Option.some.inj h)) hP
def cp_saying (σ : ST) (a1 : Int32) (a2 : Int32) : Option Int32 :=
  bo (cp_in a2 (0 : Int32) (6 : Int32)) (fun (r_2 : Int32) => (if r_2 = 0 then some (-1 : Int32) else (if (gI σ 0 22) = 0 then some (-5 : Int32) else bo (cp_in a1 (0 : Int32) ((gI σ (1 + 0) 17) - (1 : Int32))) (fun (r_6 : Int32) => (if r_6 = 0 then some (-1 : Int32) else (if a2 = (0 : Int32) then ck a1 200 (some (lI σ (1 + 0) 2 a1)) else (if a2 = (1 : Int32) then ck a1 200 (some (lI σ (1 + 0) 3 a1)) else (if a2 = (2 : Int32) then ck a1 200 (some (lI σ (1 + 0) 1 a1)) else (if a2 = (3 : Int32) then ck a1 200 (some (lI σ (1 + 0) 4 a1)) else (if a2 = (4 : Int32) then ck a1 200 (some (lI σ (1 + 0) 5 a1)) else (if a2 = (5 : Int32) then ck a1 200 (some (lI σ (1 + 0) 6 a1)) else ck a1 200 (some (lI σ (1 + 0) 7 a1)))))))))))))
abbrev rm_X0_saying : Room := rmf 1 22
set_option maxHeartbeats 4000000 in
set_option maxRecDepth 100000 in
theorem mt_X0_saying (l : Launch) (G : GT) (σ : ST) (a1 : Int32) (a2 : Int32) {r : Int32} (h : cp_saying σ a1 a2 = some r) : CI l cp_ft G yX0_saying (ws_ yX0_saying cX0_saying 3 (some .int)) rm_X0_saying 0 0 [.ref (G.2.2.1 0), .int a1, .int a2] σ (r, σ) := by
  refine m_enterI (by decide) rfl (lv := [(0, .ref (G.2.2.1 0)), (1, .int a1), (2, .int a2)]) rfl ?_
  intro p e s m args below meth c H locs ls Q X hret hP hl
  have hx := X.1.1
  have hb := X.1.2.1
  have hown := X.1.2.2.2.1
  have hts := X.1.2.2.2.2
  unfold cp_saying at h
  refine lv_iload_n hx hb dX0_saying_0 rfl (lv_at hl 2 rfl) ?_
  refine lv_iconst (v := (0 : Int32)) hx hb dX0_saying_1 (by decide) ?_
  refine lv_bipush (v := (6 : Int32)) hx hb dX0_saying_2 (by decide) ?_
  obtain ⟨r_2, e_1, h⟩ := bo_ex h
  refine r_calli (r_runS (rest := []) X hP (mt_X0_in l G σ a2 (0 : Int32) (6 : Int32) e_1) (va_cwS 3 hts (lw_S q396 q397 q110 q398) rfl rfl rfl cdX0_in ⟨Nat.le_of_ble_eq_true rfl, Nat.le_of_ble_eq_true rfl⟩) rfl hl.1 rfl (Nat.le_of_ble_eq_true rfl) dX0_saying_4 ⟨Nat.le_refl _, Nat.le_refl _⟩) hP (fun H locs hP => ?_)
  refine lv_if_ne (tgt := 12) hx hb dX0_saying_7 (by decide) (fun c_3 => ?_) (fun c_3 => ?_)
  · have h := it_f h c_3
    refine lv_aload_n hx hb dX0_saying_12 rfl (lv_at hl 0 rfl) ?_
    refine r_geti X hP 0 cp_c0 lk_0 22 (Nat.le_of_ble_eq_true rfl) q311 cp_f22 dX0_saying_13 ?_
    refine lv_if_ne (tgt := 22) hx hb dX0_saying_16 (by decide) (fun c_4 => ?_) (fun c_4 => ?_)
    · have h := it_f h c_4
      refine lv_iload_n hx hb dX0_saying_22 rfl (lv_at hl 1 rfl) ?_
      refine lv_iconst (v := (0 : Int32)) hx hb dX0_saying_23 (by decide) ?_
      refine lv_aload_n hx hb dX0_saying_24 rfl (lv_at hl 0 rfl) ?_
      refine r_geta X hP 0 cp_c0 lk_0 17 (Nat.le_of_ble_eq_true rfl) q306 cp_f17 dX0_saying_25 ?_
      refine r_getiN X hP (15 + 17 * 0) (mg_c 0 (by decide)) lk_2 17 (Nat.le_of_ble_eq_true rfl) q225 (mg_f17 0) dX0_saying_28 ?_
      refine lv_iconst (v := (1 : Int32)) hx hb dX0_saying_31 (by decide) ?_
      refine lv_isub hx hb dX0_saying_32 ?_
      obtain ⟨r_6, e_5, h⟩ := bo_ex h
      refine r_calli (r_runS (rest := []) X hP (mt_X0_in l G σ a1 (0 : Int32) ((gI σ (1 + 0) 17) - (1 : Int32)) e_5) (va_cwS 3 hts (lw_S q396 q397 q110 q398) rfl rfl rfl cdX0_in ⟨Nat.le_of_ble_eq_true rfl, Nat.le_of_ble_eq_true rfl⟩) rfl hl.1 rfl (Nat.le_of_ble_eq_true rfl) dX0_saying_33 ⟨Nat.le_refl _, Nat.le_refl _⟩) hP (fun H locs hP => ?_)
      refine lv_if_ne (tgt := 41) hx hb dX0_saying_36 (by decide) (fun c_7 => ?_) (fun c_7 => ?_)
      · have h := it_f h c_7
        refine lv_iload_n hx hb dX0_saying_41 rfl (lv_at hl 2 rfl) ?_
        by_cases c_8 : a2 = (0 : Int32)
        · have h := it_t h c_8
          refine lv_tableIn (tgt := 80) hx hb dX0_saying_42 (by rw [c_8]; decide) (by rw [c_8]; decide) (by rw [c_8]; rfl) (by decide) ?_
          refine lv_aload_n hx hb dX0_saying_80 rfl (lv_at hl 0 rfl) ?_
          refine r_geta X hP 0 cp_c0 lk_0 17 (Nat.le_of_ble_eq_true rfl) q306 cp_f17 dX0_saying_81 ?_
          refine r_getaN X hP (15 + 17 * 0) (mg_c 0 (by decide)) lk_2 2 (Nat.le_of_ble_eq_true rfl) q198 (mg_f2 0) dX0_saying_84 ?_
          refine lv_iload_n hx hb dX0_saying_87 rfl (lv_at hl 1 rfl) ?_
          refine r_iald X hP (16 + 17 * 0 + 2) (mg_a2 0 (by decide)) (ck_in h) dX0_saying_88 ?_
          have h := ck_k h
          exact hret _ _ _ _ _ _ dX0_saying_89 rfl (congrArg (fun z9 => (z9, σ)) (Option.some.inj h)) hP
        · have h := it_f h c_8
          by_cases c_9 : a2 = (1 : Int32)
          · have h := it_t h c_9
            refine lv_tableIn (tgt := 90) hx hb dX0_saying_42 (by rw [c_9]; decide) (by rw [c_9]; decide) (by rw [c_9]; rfl) (by decide) ?_
            refine lv_aload_n hx hb dX0_saying_90 rfl (lv_at hl 0 rfl) ?_
            refine r_geta X hP 0 cp_c0 lk_0 17 (Nat.le_of_ble_eq_true rfl) q306 cp_f17 dX0_saying_91 ?_
            refine r_getaN X hP (15 + 17 * 0) (mg_c 0 (by decide)) lk_2 3 (Nat.le_of_ble_eq_true rfl) q200 (mg_f3 0) dX0_saying_94 ?_
            refine lv_iload_n hx hb dX0_saying_97 rfl (lv_at hl 1 rfl) ?_
            refine r_iald X hP (16 + 17 * 0 + 3) (mg_a3 0 (by decide)) (ck_in h) dX0_saying_98 ?_
            have h := ck_k h
            exact hret _ _ _ _ _ _ dX0_saying_99 rfl (congrArg (fun z9 => (z9, σ)) (Option.some.inj h)) hP
          · have h := it_f h c_9
            by_cases c_10 : a2 = (2 : Int32)
            · have h := it_t h c_10
              refine lv_tableIn (tgt := 100) hx hb dX0_saying_42 (by rw [c_10]; decide) (by rw [c_10]; decide) (by rw [c_10]; rfl) (by decide) ?_
              refine lv_aload_n hx hb dX0_saying_100 rfl (lv_at hl 0 rfl) ?_
              refine r_geta X hP 0 cp_c0 lk_0 17 (Nat.le_of_ble_eq_true rfl) q306 cp_f17 dX0_saying_101 ?_
              refine r_getaN X hP (15 + 17 * 0) (mg_c 0 (by decide)) lk_2 1 (Nat.le_of_ble_eq_true rfl) q196 (mg_f1 0) dX0_saying_104 ?_
              refine lv_iload_n hx hb dX0_saying_107 rfl (lv_at hl 1 rfl) ?_
              refine r_iald X hP (16 + 17 * 0 + 1) (mg_a1 0 (by decide)) (ck_in h) dX0_saying_108 ?_
              have h := ck_k h
              exact hret _ _ _ _ _ _ dX0_saying_109 rfl (congrArg (fun z9 => (z9, σ)) (Option.some.inj h)) hP
            · have h := it_f h c_10
              by_cases c_11 : a2 = (3 : Int32)
              · have h := it_t h c_11
                refine lv_tableIn (tgt := 110) hx hb dX0_saying_42 (by rw [c_11]; decide) (by rw [c_11]; decide) (by rw [c_11]; rfl) (by decide) ?_
                refine lv_aload_n hx hb dX0_saying_110 rfl (lv_at hl 0 rfl) ?_
                refine r_geta X hP 0 cp_c0 lk_0 17 (Nat.le_of_ble_eq_true rfl) q306 cp_f17 dX0_saying_111 ?_
                refine r_getaN X hP (15 + 17 * 0) (mg_c 0 (by decide)) lk_2 4 (Nat.le_of_ble_eq_true rfl) q202 (mg_f4 0) dX0_saying_114 ?_
                refine lv_iload_n hx hb dX0_saying_117 rfl (lv_at hl 1 rfl) ?_
                refine r_iald X hP (16 + 17 * 0 + 4) (mg_a4 0 (by decide)) (ck_in h) dX0_saying_118 ?_
                have h := ck_k h
                exact hret _ _ _ _ _ _ dX0_saying_119 rfl (congrArg (fun z9 => (z9, σ)) (Option.some.inj h)) hP
              · have h := it_f h c_11
                by_cases c_12 : a2 = (4 : Int32)
                · have h := it_t h c_12
                  refine lv_tableIn (tgt := 120) hx hb dX0_saying_42 (by rw [c_12]; decide) (by rw [c_12]; decide) (by rw [c_12]; rfl) (by decide) ?_
                  refine lv_aload_n hx hb dX0_saying_120 rfl (lv_at hl 0 rfl) ?_
                  refine r_geta X hP 0 cp_c0 lk_0 17 (Nat.le_of_ble_eq_true rfl) q306 cp_f17 dX0_saying_121 ?_
                  refine r_getaN X hP (15 + 17 * 0) (mg_c 0 (by decide)) lk_2 5 (Nat.le_of_ble_eq_true rfl) q204 (mg_f5 0) dX0_saying_124 ?_
                  refine lv_iload_n hx hb dX0_saying_127 rfl (lv_at hl 1 rfl) ?_
                  refine r_iald X hP (16 + 17 * 0 + 5) (mg_a5 0 (by decide)) (ck_in h) dX0_saying_128 ?_
                  have h := ck_k h
                  exact hret _ _ _ _ _ _ dX0_saying_129 rfl (congrArg (fun z9 => (z9, σ)) (Option.some.inj h)) hP
                · have h := it_f h c_12
                  by_cases c_13 : a2 = (5 : Int32)
                  · have h := it_t h c_13
                    refine lv_tableIn (tgt := 130) hx hb dX0_saying_42 (by rw [c_13]; decide) (by rw [c_13]; decide) (by rw [c_13]; rfl) (by decide) ?_
                    refine lv_aload_n hx hb dX0_saying_130 rfl (lv_at hl 0 rfl) ?_
                    refine r_geta X hP 0 cp_c0 lk_0 17 (Nat.le_of_ble_eq_true rfl) q306 cp_f17 dX0_saying_131 ?_
                    refine r_getaN X hP (15 + 17 * 0) (mg_c 0 (by decide)) lk_2 6 (Nat.le_of_ble_eq_true rfl) q206 (mg_f6 0) dX0_saying_134 ?_
                    refine lv_iload_n hx hb dX0_saying_137 rfl (lv_at hl 1 rfl) ?_
                    refine r_iald X hP (16 + 17 * 0 + 6) (mg_a6 0 (by decide)) (ck_in h) dX0_saying_138 ?_
                    have h := ck_k h
                    exact hret _ _ _ _ _ _ dX0_saying_139 rfl (congrArg (fun z9 => (z9, σ)) (Option.some.inj h)) hP
                  · have h := it_f h c_13
                    refine lv_tableOut (tgt := 140) hx hb dX0_saying_42 (by have n0 := lv_neT c_8 (a := 0) (by decide); have n1 := lv_neT c_9 (a := 1) (by decide); have n2 := lv_neT c_10 (a := 2) (by decide); have n3 := lv_neT c_11 (a := 3) (by decide); have n4 := lv_neT c_12 (a := 4) (by decide); have n5 := lv_neT c_13 (a := 5) (by decide); omega) (by decide) ?_
                    refine lv_aload_n hx hb dX0_saying_140 rfl (lv_at hl 0 rfl) ?_
                    refine r_geta X hP 0 cp_c0 lk_0 17 (Nat.le_of_ble_eq_true rfl) q306 cp_f17 dX0_saying_141 ?_
                    refine r_getaN X hP (15 + 17 * 0) (mg_c 0 (by decide)) lk_2 7 (Nat.le_of_ble_eq_true rfl) q208 (mg_f7 0) dX0_saying_144 ?_
                    refine lv_iload_n hx hb dX0_saying_147 rfl (lv_at hl 1 rfl) ?_
                    refine r_iald X hP (16 + 17 * 0 + 7) (mg_a7 0 (by decide)) (ck_in h) dX0_saying_148 ?_
                    have h := ck_k h
                    exact hret _ _ _ _ _ _ dX0_saying_149 rfl (congrArg (fun z9 => (z9, σ)) (Option.some.inj h)) hP
      · have h := it_t h c_7
        refine lv_iconst (v := (-1 : Int32)) hx hb dX0_saying_39 (by decide) ?_
        exact hret _ _ _ _ _ _ dX0_saying_40 rfl (congrArg (fun z9 => (z9, σ)) (Option.some.inj h)) hP
    · have h := it_t h c_4
      refine lv_bipush (v := (-5 : Int32)) hx hb dX0_saying_19 (by decide) ?_
      exact hret _ _ _ _ _ _ dX0_saying_21 rfl (congrArg (fun z9 => (z9, σ)) (Option.some.inj h)) hP
  · have h := it_t h c_3
    refine lv_iconst (v := (-1 : Int32)) hx hb dX0_saying_10 (by decide) ?_
    exact hret _ _ _ _ _ _ dX0_saying_11 rfl (congrArg (fun z9 => (z9, σ)) (Option.some.inj h)) hP
