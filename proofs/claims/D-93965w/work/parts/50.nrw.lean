set_option maxRecDepth 100000
/-- an object that is lost with the throw -/
theorem Pic.lose {ft : List FC} {G : GT} {σ : ST} {H0 H1 : Heap} {ci k : Nat} {fs : List Value} (hal : G.2.2.2.2 = true) (h0 : Pic ft G σ H0) (h : Pic ft G (grw (aloc σ ci fs k) H1) H1) : Pic ft G (grw σ H1) H1 := by
  obtain ⟨h1, h2, h3, h4⟩ := h
  refine ⟨fun j d hj => ?_, h2, fun b eb hb => ?_, fun ht => h4 ht⟩
  · have e1 : fxe G (grw σ H1) d = fxe G (grw (aloc σ ci fs k) H1) d := by cases d <;> rfl
    rw [e1]
    exact h1 j d hj
  · refine h3 b eb ?_
    have hlt := (h0.2.2.1 b eb hb).1.lt
    have hne : ¬ b = szo σ := by
      rw [← (h0.2.2.2 hal).1]
      exact Nat.ne_of_lt hlt
    show (if b = szo σ then _ else σ.2.2.2.1 b) = some eb
    rw [if_neg hne]
    exact hb
def cp_newRow_T (ks : Nat → ClassId) (σ : ST) (a0 : Int32) (a1 : Int32) : Option Unit :=
  (if a0 = (0 : Int32) then st_ (aloc σ 15 [.null] 1) (fun (σ_2 : ST) => bo (r15_init_T ks σ_2 (szo σ) a1) (fun (_ : Unit) => some ())) else (if a0 = (1 : Int32) then st_ (aloc σ 16 [.null] 1) (fun (σ_6 : ST) => bo (r16_init_T ks σ_6 (szo σ) a1) (fun (_ : Unit) => some ())) else (if a0 = (2 : Int32) then st_ (aloc σ 17 [.null] 1) (fun (σ_10 : ST) => bo (r17_init_T ks σ_10 (szo σ) a1) (fun (_ : Unit) => some ())) else (if a0 = (3 : Int32) then st_ (aloc σ 18 [.null] 1) (fun (σ_14 : ST) => bo (r18_init_T ks σ_14 (szo σ) a1) (fun (_ : Unit) => some ())) else st_ (aloc σ 19 [.null] 1) (fun (σ_17 : ST) => bo (r19_init_T ks σ_17 (szo σ) a1) (fun (_ : Unit) => some ()))))))
abbrev rm_X0_newRow_T : Room := rmc 12 10400 4 1220
theorem mt_X0_newRow_T (l : Launch) (G : GT) (hal : G.2.2.2.2 = true) (hlt : l.stackTraces = false) (σ : ST) (a0 : Int32) (a1 : Int32) (h : cp_newRow_T G.2.1 σ a0 a1 = some ()) : MetT l yX0_newRow (ws_ yX0_newRow cX0_newRow 2 (some (.object "SpeaksInTurn$Row"))) rm_X0_newRow_T (va_Pc [.int a0, .int a1] (PicU cp_ft G σ)) (QTx "java/lang/NegativeArraySizeException" cp_ft G σ) 4 1220 G.2.2.2.1 := by
  refine m_enterT (by decide) rfl (lv := [(0, .int a0), (1, .int a1)]) rfl ?_
  intro p e s m args below meth c H locs ls X hlocks htab hP hl
  have hP0 := hP
  have hx := X.1.1
  have hb := X.1.2.1
  have hown := X.1.2.2.2.1
  have hts := X.1.2.2.2.2
  unfold cp_newRow_T at h
  refine lv_iload_n hx hb dX0_newRow_0 rfl (lv_at hl 0 rfl) ?_
  by_cases c_1 : a0 = (0 : Int32)
  · have h := it_t h c_1
    refine lv_tableIn (tgt := 32) hx hb dX0_newRow_1 (by rw [c_1]; decide) (by rw [c_1]; decide) (by rw [c_1]; rfl) (by decide) ?_
    refine r_new X hal hP 15 lk_15 tyX26 tyX26_ok (fs := [.null]) rfl q1141 q1446 q151 (Nat.le_of_ble_eq_true rfl) (Nat.le_of_ble_eq_true rfl) dX0_newRow_32 (fun σ_2 H e_3 hP => ?_)
    have h := st_k h e_3
    refine lv_dup hx hb dX0_newRow_35 rfl ?_
    refine lv_iload_n hx hb dX0_newRow_36 rfl (lv_at hl 1 rfl) ?_
    obtain ⟨_, e_4, h⟩ := bo_ex h
    refine r_callTI (rest := [.ref (szo σ)]) X hP (mt_X26_init_T l G hal hlt σ_2 (szo σ) a1 e_4) (cwI 1 hts (lw_meth q1449) rfl rfl rfl (hts _ q151) (hts _ q1447) (hts _ q1448) rfl cdX26_init ⟨Nat.le_of_ble_eq_true rfl, Nat.le_of_ble_eq_true rfl⟩) rfl hl.1 rfl (Nat.le_of_ble_eq_true rfl) dX0_newRow_37 ⟨Nat.le_of_ble_eq_true rfl, Nat.le_of_ble_eq_true rfl⟩ (fun o st t H1 locs1 hst ht hW1 hq hL => ?_)
    obtain ⟨ce, hP1, hce, hv, hf⟩ := hq.ps hst ht hW1 hP hL
    subst e_3
    exact r_leaveT X ⟨Pic.lose hal hP0.1 hP1.1, hP1.2⟩ hce hf hv hlocks htab (Nat.le_of_ble_eq_true rfl) (Nat.le_of_ble_eq_true rfl)
  · have h := it_f h c_1
    by_cases c_5 : a0 = (1 : Int32)
    · have h := it_t h c_5
      refine lv_tableIn (tgt := 41) hx hb dX0_newRow_1 (by rw [c_5]; decide) (by rw [c_5]; decide) (by rw [c_5]; rfl) (by decide) ?_
      refine r_new X hal hP 16 lk_16 tyX27 tyX27_ok (fs := [.null]) rfl q615 q1458 q152 (Nat.le_of_ble_eq_true rfl) (Nat.le_of_ble_eq_true rfl) dX0_newRow_41 (fun σ_6 H e_7 hP => ?_)
      have h := st_k h e_7
      refine lv_dup hx hb dX0_newRow_44 rfl ?_
      refine lv_iload_n hx hb dX0_newRow_45 rfl (lv_at hl 1 rfl) ?_
      obtain ⟨_, e_8, h⟩ := bo_ex h
      refine r_callTI (rest := [.ref (szo σ)]) X hP (mt_X27_init_T l G hal hlt σ_6 (szo σ) a1 e_8) (cwI 1 hts (lw_meth q1461) rfl rfl rfl (hts _ q152) (hts _ q1459) (hts _ q1460) rfl cdX27_init ⟨Nat.le_of_ble_eq_true rfl, Nat.le_of_ble_eq_true rfl⟩) rfl hl.1 rfl (Nat.le_of_ble_eq_true rfl) dX0_newRow_46 ⟨Nat.le_of_ble_eq_true rfl, Nat.le_of_ble_eq_true rfl⟩ (fun o st t H1 locs1 hst ht hW1 hq hL => ?_)
      obtain ⟨ce, hP1, hce, hv, hf⟩ := hq.ps hst ht hW1 hP hL
      subst e_7
      exact r_leaveT X ⟨Pic.lose hal hP0.1 hP1.1, hP1.2⟩ hce hf hv hlocks htab (Nat.le_of_ble_eq_true rfl) (Nat.le_of_ble_eq_true rfl)
    · have h := it_f h c_5
      by_cases c_9 : a0 = (2 : Int32)
      · have h := it_t h c_9
        refine lv_tableIn (tgt := 50) hx hb dX0_newRow_1 (by rw [c_9]; decide) (by rw [c_9]; decide) (by rw [c_9]; rfl) (by decide) ?_
        refine r_new X hal hP 17 lk_17 tyX28 tyX28_ok (fs := [.null]) rfl q1468 q1469 q153 (Nat.le_of_ble_eq_true rfl) (Nat.le_of_ble_eq_true rfl) dX0_newRow_50 (fun σ_10 H e_11 hP => ?_)
        have h := st_k h e_11
        refine lv_dup hx hb dX0_newRow_53 rfl ?_
        refine lv_iload_n hx hb dX0_newRow_54 rfl (lv_at hl 1 rfl) ?_
        obtain ⟨_, e_12, h⟩ := bo_ex h
        refine r_callTI (rest := [.ref (szo σ)]) X hP (mt_X28_init_T l G hal hlt σ_10 (szo σ) a1 e_12) (cwI 1 hts (lw_meth q1472) rfl rfl rfl (hts _ q153) (hts _ q1470) (hts _ q1471) rfl cdX28_init ⟨Nat.le_of_ble_eq_true rfl, Nat.le_of_ble_eq_true rfl⟩) rfl hl.1 rfl (Nat.le_of_ble_eq_true rfl) dX0_newRow_55 ⟨Nat.le_of_ble_eq_true rfl, Nat.le_of_ble_eq_true rfl⟩ (fun o st t H1 locs1 hst ht hW1 hq hL => ?_)
        obtain ⟨ce, hP1, hce, hv, hf⟩ := hq.ps hst ht hW1 hP hL
        subst e_11
        exact r_leaveT X ⟨Pic.lose hal hP0.1 hP1.1, hP1.2⟩ hce hf hv hlocks htab (Nat.le_of_ble_eq_true rfl) (Nat.le_of_ble_eq_true rfl)
      · have h := it_f h c_9
        by_cases c_13 : a0 = (3 : Int32)
        · have h := it_t h c_13
          refine lv_tableIn (tgt := 59) hx hb dX0_newRow_1 (by rw [c_13]; decide) (by rw [c_13]; decide) (by rw [c_13]; rfl) (by decide) ?_
          refine r_new X hal hP 18 lk_18 tyX29 tyX29_ok (fs := [.null]) rfl q1478 q1479 q154 (Nat.le_of_ble_eq_true rfl) (Nat.le_of_ble_eq_true rfl) dX0_newRow_59 (fun σ_14 H e_15 hP => ?_)
          have h := st_k h e_15
          refine lv_dup hx hb dX0_newRow_62 rfl ?_
          refine lv_iload_n hx hb dX0_newRow_63 rfl (lv_at hl 1 rfl) ?_
          obtain ⟨_, e_16, h⟩ := bo_ex h
          refine r_callTI (rest := [.ref (szo σ)]) X hP (mt_X29_init_T l G hal hlt σ_14 (szo σ) a1 e_16) (cwI 1 hts (lw_meth q1482) rfl rfl rfl (hts _ q154) (hts _ q1480) (hts _ q1481) rfl cdX29_init ⟨Nat.le_of_ble_eq_true rfl, Nat.le_of_ble_eq_true rfl⟩) rfl hl.1 rfl (Nat.le_of_ble_eq_true rfl) dX0_newRow_64 ⟨Nat.le_of_ble_eq_true rfl, Nat.le_of_ble_eq_true rfl⟩ (fun o st t H1 locs1 hst ht hW1 hq hL => ?_)
          obtain ⟨ce, hP1, hce, hv, hf⟩ := hq.ps hst ht hW1 hP hL
          subst e_15
          exact r_leaveT X ⟨Pic.lose hal hP0.1 hP1.1, hP1.2⟩ hce hf hv hlocks htab (Nat.le_of_ble_eq_true rfl) (Nat.le_of_ble_eq_true rfl)
        · have h := it_f h c_13
          refine lv_tableOut (tgt := 68) hx hb dX0_newRow_1 (by have n0 := lv_neT c_1 (a := 0) (by decide); have n1 := lv_neT c_5 (a := 1) (by decide); have n2 := lv_neT c_9 (a := 2) (by decide); have n3 := lv_neT c_13 (a := 3) (by decide); omega) (by decide) ?_
          refine r_new X hal hP 19 lk_19 tyX30 tyX30_ok (fs := [.null]) rfl q1489 q1490 q155 (Nat.le_of_ble_eq_true rfl) (Nat.le_of_ble_eq_true rfl) dX0_newRow_68 (fun σ_17 H e_18 hP => ?_)
          have h := st_k h e_18
          refine lv_dup hx hb dX0_newRow_71 rfl ?_
          refine lv_iload_n hx hb dX0_newRow_72 rfl (lv_at hl 1 rfl) ?_
          obtain ⟨_, e_19, h⟩ := bo_ex h
          refine r_callTI (rest := [.ref (szo σ)]) X hP (mt_X30_init_T l G hal hlt σ_17 (szo σ) a1 e_19) (cwI 1 hts (lw_meth q1493) rfl rfl rfl (hts _ q155) (hts _ q1491) (hts _ q1492) rfl cdX30_init ⟨Nat.le_of_ble_eq_true rfl, Nat.le_of_ble_eq_true rfl⟩) rfl hl.1 rfl (Nat.le_of_ble_eq_true rfl) dX0_newRow_73 ⟨Nat.le_of_ble_eq_true rfl, Nat.le_of_ble_eq_true rfl⟩ (fun o st t H1 locs1 hst ht hW1 hq hL => ?_)
          obtain ⟨ce, hP1, hce, hv, hf⟩ := hq.ps hst ht hW1 hP hL
          subst e_18
          exact r_leaveT X ⟨Pic.lose hal hP0.1 hP1.1, hP1.2⟩ hce hf hv hlocks htab (Nat.le_of_ble_eq_true rfl) (Nat.le_of_ble_eq_true rfl)
