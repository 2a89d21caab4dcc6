set_option maxRecDepth 100000
def pr_is (a0 : Int32) : Option Int32 :=
  (if a0 = 0 then some (0 : Int32) else some (1 : Int32))
abbrev rm_X14_is : Room := rmf 0 0
set_option maxHeartbeats 4000000 in
set_option maxRecDepth 100000 in
theorem mt_X14_is (l : Launch) (G : GT) (σ : ST) (a0 : Int32) {r : Int32} (h : pr_is a0 = some r) : CI l cp_ft G yX14_is (ws_ yX14_is cX14_is 1 (some .int)) rm_X14_is 0 0 [.int a0] σ (r, σ) := by
  refine m_enterI (by decide) rfl (lv := [(0, .int a0)]) rfl ?_
  intro p e s m args below meth c H locs ls Q X hret hP hl
  have hx := X.1.1
  have hb := X.1.2.1
  have hown := X.1.2.2.2.1
  have hts := X.1.2.2.2.2
  unfold pr_is at h
  refine lv_iload_n hx hb dX14_is_0 rfl (lv_at hl 0 rfl) ?_
  refine lv_if_eq (tgt := 8) hx hb dX14_is_1 (by decide) (fun c_1 => ?_) (fun c_1 => ?_)
  · have h := it_t h c_1
    refine lv_iconst (v := (0 : Int32)) hx hb dX14_is_8 (by decide) ?_
    exact hret _ _ _ _ _ _ dX14_is_9 rfl (congrArg (fun z9 => (z9, σ)) (Option.some.inj h)) hP
  · have h := it_f h c_1
    refine lv_iconst (v := (1 : Int32)) hx hb dX14_is_4 (by decide) ?_
    refine lv_goto (tgt := 9) hx hb dX14_is_5 (by decide) ?_
    exact hret _ _ _ _ _ _ dX14_is_9 rfl (congrArg (fun z9 => (z9, σ)) (Option.some.inj h)) hP
def lf_value (fv : ST → Option Nat → Option Int32) (σ : ST) (t0 : Nat) : Option Int32 :=
  bo (pgi σ (some t0) 12 0) (fun (v_2 : Int32) => some v_2)
set_option maxHeartbeats 4000000 in
set_option maxRecDepth 100000 in
theorem mt_X13_value (l : Launch) (G : GT) {f lo : Nat} (fv : ST → Option Nat → Option Int32) (hfv : ∀ (σ : ST) (r : Option Nat) {v : Int32}, fv σ r = some v → NOK l G f lo σ r v) (σ : ST) (t0 : Nat) {r : Int32} (h : lf_value fv σ t0 = some r) : CI l cp_ft G yX13_value (ws_ yX13_value cX13_value 2 (some .int)) (rmf (f + 2) (lo + 60)) 0 0 [.ref t0, .ref (G.2.2.1 13)] σ (r, σ) := by
  refine m_enterI (by decide) rfl (lv := [(0, .ref t0), (1, .ref (G.2.2.1 13))]) rfl ?_
  intro p e s m args below meth c H locs ls Q X hret hP hl
  have hx := X.1.1
  have hb := X.1.2.1
  have hown := X.1.2.2.2.1
  have hts := X.1.2.2.2.2
  unfold lf_value at h
  refine lv_aload_n hx hb dX13_value_0 rfl (lv_at hl 0 rfl) ?_
  obtain ⟨v_2, e_1, h⟩ := bo_ex h
  refine r_pgi (r := (some t0)) X hP lk_12 0 (Nat.le_of_ble_eq_true rfl) e_1 q897 dX13_value_1 ?_
  exact hret _ _ _ _ _ _ dX13_value_4 rfl (congrArg (fun z9 => (z9, σ)) (Option.some.inj h)) hP
def nm_value (fv : ST → Option Nat → Option Int32) (σ : ST) (t0 : Nat) : Option Int32 :=
  bo (pgi σ (some t0) 9 0) (fun (v_2 : Int32) => ck v_2 128 (some (lI σ 3 0 v_2)))
set_option maxHeartbeats 4000000 in
set_option maxRecDepth 100000 in
theorem mt_X10_value (l : Launch) (G : GT) {f lo : Nat} (fv : ST → Option Nat → Option Int32) (hfv : ∀ (σ : ST) (r : Option Nat) {v : Int32}, fv σ r = some v → NOK l G f lo σ r v) (σ : ST) (t0 : Nat) {r : Int32} (h : nm_value fv σ t0 = some r) : CI l cp_ft G yX10_value (ws_ yX10_value cX10_value 2 (some .int)) (rmf (f + 2) (lo + 60)) 0 0 [.ref t0, .ref (G.2.2.1 13)] σ (r, σ) := by
  refine m_enterI (by decide) rfl (lv := [(0, .ref t0), (1, .ref (G.2.2.1 13))]) rfl ?_
  intro p e s m args below meth c H locs ls Q X hret hP hl
  have hx := X.1.1
  have hb := X.1.2.1
  have hown := X.1.2.2.2.1
  have hts := X.1.2.2.2.2
  unfold nm_value at h
  refine lv_aload_n hx hb dX10_value_0 rfl (lv_at hl 1 rfl) ?_
  refine r_getaN X hP 13 cp_c13 lk_1 0 (Nat.le_of_ble_eq_true rfl) q180 fa_f0 dX10_value_1 ?_
  refine lv_aload_n hx hb dX10_value_4 rfl (lv_at hl 0 rfl) ?_
  obtain ⟨v_2, e_1, h⟩ := bo_ex h
  refine r_pgi (r := (some t0)) X hP lk_9 0 (Nat.le_of_ble_eq_true rfl) e_1 q858 dX10_value_5 ?_
  refine r_iald X hP 14 cp_c14 (ck_in h) dX10_value_8 ?_
  have h := ck_k h
  exact hret _ _ _ _ _ _ dX10_value_9 rfl (congrArg (fun z9 => (z9, σ)) (Option.some.inj h)) hP
def tn_value (fv : ST → Option Nat → Option Int32) (σ : ST) (t0 : Nat) : Option Int32 :=
  bo (pgr σ (some t0) 11 0) (fun (v_2 : Option Nat) => bo (fv σ v_2) (fun (r_4 : Int32) => some (-r_4)))
set_option maxHeartbeats 4000000 in
set_option maxRecDepth 100000 in
theorem mt_X12_value (l : Launch) (G : GT) {f lo : Nat} (fv : ST → Option Nat → Option Int32) (hfv : ∀ (σ : ST) (r : Option Nat) {v : Int32}, fv σ r = some v → NOK l G f lo σ r v) (σ : ST) (t0 : Nat) {r : Int32} (h : tn_value fv σ t0 = some r) : CI l cp_ft G yX12_value (ws_ yX12_value cX12_value 2 (some .int)) (rmf (f + 2) (lo + 60)) 0 0 [.ref t0, .ref (G.2.2.1 13)] σ (r, σ) := by
  refine m_enterI (by decide) rfl (lv := [(0, .ref t0), (1, .ref (G.2.2.1 13))]) rfl ?_
  intro p e s m args below meth c H locs ls Q X hret hP hl
  have hx := X.1.1
  have hb := X.1.2.1
  have hown := X.1.2.2.2.1
  have hts := X.1.2.2.2.2
  unfold tn_value at h
  refine lv_aload_n hx hb dX12_value_0 rfl (lv_at hl 0 rfl) ?_
  obtain ⟨v_2, e_1, h⟩ := bo_ex h
  refine r_pgr (r := (some t0)) X hP lk_11 0 (Nat.le_of_ble_eq_true rfl) e_1 q886 dX12_value_1 ?_
  refine lv_aload_n hx hb dX12_value_4 rfl (lv_at hl 1 rfl) ?_
  obtain ⟨r_4, e_3, h⟩ := bo_ex h
  refine r_callN (r := v_2) (rest := []) X hP (hfv σ v_2 e_3) q1000 (show f + 1 ≤ f + 2 by omega) (show 8 + (4 + 11) + lo ≤ lo + 60 by omega) hl.1 (Nat.le_of_ble_eq_true rfl) dX12_value_5 ⟨Nat.le_of_ble_eq_true rfl, Nat.le_of_ble_eq_true rfl⟩ (fun H locs hP => ?_)
  refine lv_ineg hx hb dX12_value_8 ?_
  exact hret _ _ _ _ _ _ dX12_value_9 rfl (congrArg (fun z9 => (z9, σ)) (Option.some.inj h)) hP
def dn_value (fv : ST → Option Nat → Option Int32) (σ : ST) (t0 : Nat) : Option Int32 :=
  bo (pgr σ (some t0) 10 0) (fun (v_2 : Option Nat) => bo (fv σ v_2) (fun (r_4 : Int32) => (if r_4 = 0 then some (1 : Int32) else some (0 : Int32))))
set_option maxHeartbeats 4000000 in
set_option maxRecDepth 100000 in
theorem mt_X11_value (l : Launch) (G : GT) {f lo : Nat} (fv : ST → Option Nat → Option Int32) (hfv : ∀ (σ : ST) (r : Option Nat) {v : Int32}, fv σ r = some v → NOK l G f lo σ r v) (σ : ST) (t0 : Nat) {r : Int32} (h : dn_value fv σ t0 = some r) : CI l cp_ft G yX11_value (ws_ yX11_value cX11_value 2 (some .int)) (rmf (f + 2) (lo + 60)) 0 0 [.ref t0, .ref (G.2.2.1 13)] σ (r, σ) := by
  refine m_enterI (by decide) rfl (lv := [(0, .ref t0), (1, .ref (G.2.2.1 13))]) rfl ?_
  intro p e s m args below meth c H locs ls Q X hret hP hl
  have hx := X.1.1
  have hb := X.1.2.1
  have hown := X.1.2.2.2.1
  have hts := X.1.2.2.2.2
  unfold dn_value at h
  refine lv_aload_n hx hb dX11_value_0 rfl (lv_at hl 0 rfl) ?_
  obtain ⟨v_2, e_1, h⟩ := bo_ex h
  refine r_pgr (r := (some t0)) X hP lk_10 0 (Nat.le_of_ble_eq_true rfl) e_1 q876 dX11_value_1 ?_
  refine lv_aload_n hx hb dX11_value_4 rfl (lv_at hl 1 rfl) ?_
  obtain ⟨r_4, e_3, h⟩ := bo_ex h
  refine r_callN (r := v_2) (rest := []) X hP (hfv σ v_2 e_3) q990 (show f + 1 ≤ f + 2 by omega) (show 8 + (4 + 11) + lo ≤ lo + 60 by omega) hl.1 (Nat.le_of_ble_eq_true rfl) dX11_value_5 ⟨Nat.le_of_ble_eq_true rfl, Nat.le_of_ble_eq_true rfl⟩ (fun H locs hP => ?_)
  refine lv_if_ne (tgt := 15) hx hb dX11_value_8 (by decide) (fun c_5 => ?_) (fun c_5 => ?_)
  · have h := it_f h c_5
    refine lv_iconst (v := (0 : Int32)) hx hb dX11_value_15 (by decide) ?_
    exact hret _ _ _ _ _ _ dX11_value_16 rfl (congrArg (fun z9 => (z9, σ)) (Option.some.inj h)) hP
  · have h := it_t h c_5
    refine lv_iconst (v := (1 : Int32)) hx hb dX11_value_11 (by decide) ?_
    refine lv_goto (tgt := 16) hx hb dX11_value_12 (by decide) ?_
    exact hret _ _ _ _ _ _ dX11_value_16 rfl (congrArg (fun z9 => (z9, σ)) (Option.some.inj h)) hP
def pr_value_K250 (fv : ST → Option Nat → Option Int32) (σ : ST) (k2 : Int32) (k3 : Int32) : Option Int32 :=
  bo (if k2 = 0 then (if k3 = 0 then some ((0 : Int32)) else some ((1 : Int32))) else some ((1 : Int32))) (fun (x_12 : Int32) => bo (pr_is x_12) (fun (r_16 : Int32) => some r_16))
def pr_value (fv : ST → Option Nat → Option Int32) (σ : ST) (t0 : Nat) : Option Int32 :=
  bo (pgr σ (some t0) 13 1) (fun (v_2 : Option Nat) => bo (fv σ v_2) (fun (r_4 : Int32) => bo (pgr σ (some t0) 13 2) (fun (v_6 : Option Nat) => bo (fv σ v_6) (fun (r_8 : Int32) => bo (pgi σ (some t0) 13 0) (fun (v_10 : Int32) => (if v_10 = (37 : Int32) then (if r_8 = 0 then some (0 : Int32) else (if r_8 = (-1 : Int32) then some (0 : Int32) else nz r_8 (some (r_4 - r_4 / r_8 * r_8)))) else (if v_10 = (38 : Int32) then bo (if r_4 = 0 then some ((0 : Int32)) else (if r_8 = 0 then some ((0 : Int32)) else some ((1 : Int32)))) (fun (x_30 : Int32) => bo (pr_is x_30) (fun (r_34 : Int32) => some r_34)) else (if v_10 = (39 : Int32) then (pr_value_K250 fv σ r_4 r_8) else (if v_10 = (40 : Int32) then (pr_value_K250 fv σ r_4 r_8) else (if v_10 = (41 : Int32) then (pr_value_K250 fv σ r_4 r_8) else (if v_10 = (42 : Int32) then some (r_4 * r_8) else (if v_10 = (43 : Int32) then some (r_4 + r_8) else (if v_10 = (44 : Int32) then (pr_value_K250 fv σ r_4 r_8) else (if v_10 = (45 : Int32) then some (r_4 - r_8) else (if v_10 = (46 : Int32) then (pr_value_K250 fv σ r_4 r_8) else (if v_10 = (47 : Int32) then (if r_8 = 0 then some (0 : Int32) else (if r_8 = (-1 : Int32) then some (-r_4) else nz r_8 (some (r_4 / r_8)))) else (if v_10 = (48 : Int32) then (pr_value_K250 fv σ r_4 r_8) else (if v_10 = (49 : Int32) then (pr_value_K250 fv σ r_4 r_8) else (if v_10 = (50 : Int32) then (pr_value_K250 fv σ r_4 r_8) else (if v_10 = (51 : Int32) then (pr_value_K250 fv σ r_4 r_8) else (if v_10 = (52 : Int32) then (pr_value_K250 fv σ r_4 r_8) else (if v_10 = (53 : Int32) then (pr_value_K250 fv σ r_4 r_8) else (if v_10 = (54 : Int32) then (pr_value_K250 fv σ r_4 r_8) else (if v_10 = (55 : Int32) then (pr_value_K250 fv σ r_4 r_8) else (if v_10 = (56 : Int32) then (pr_value_K250 fv σ r_4 r_8) else (if v_10 = (57 : Int32) then (pr_value_K250 fv σ r_4 r_8) else (if v_10 = (58 : Int32) then (pr_value_K250 fv σ r_4 r_8) else (if v_10 = (59 : Int32) then (pr_value_K250 fv σ r_4 r_8) else (if v_10 = (60 : Int32) then bo (if r_8 ≤ r_4 then some ((0 : Int32)) else some ((1 : Int32))) (fun (x_61 : Int32) => bo (pr_is x_61) (fun (r_65 : Int32) => some r_65)) else (if v_10 = (61 : Int32) then bo (if r_4 = r_8 then some ((1 : Int32)) else some ((0 : Int32))) (fun (x_68 : Int32) => bo (pr_is x_68) (fun (r_72 : Int32) => some r_72)) else (if v_10 = (62 : Int32) then bo (if r_4 ≤ r_8 then some ((0 : Int32)) else some ((1 : Int32))) (fun (x_75 : Int32) => bo (pr_is x_75) (fun (r_79 : Int32) => some r_79)) else (pr_value_K250 fv σ r_4 r_8))))))))))))))))))))))))))))))))
set_option maxHeartbeats 4000000 in
set_option maxRecDepth 100000 in
theorem mt_X14_value (l : Launch) (G : GT) {f lo : Nat} (fv : ST → Option Nat → Option Int32) (hfv : ∀ (σ : ST) (r : Option Nat) {v : Int32}, fv σ r = some v → NOK l G f lo σ r v) (σ : ST) (t0 : Nat) {r : Int32} (h : pr_value fv σ t0 = some r) : CI l cp_ft G yX14_value (ws_ yX14_value cX14_value 4 (some .int)) (rmf (f + 2) (lo + 60)) 0 0 [.ref t0, .ref (G.2.2.1 13)] σ (r, σ) := by
  refine m_enterI (by decide) rfl (lv := [(0, .ref t0), (1, .ref (G.2.2.1 13))]) rfl ?_
  intro p e s m args below meth c H locs ls Q X hret hP hl
  have hx := X.1.1
  have hb := X.1.2.1
  have hown := X.1.2.2.2.1
  have hts := X.1.2.2.2.2
  unfold pr_value at h
  refine lv_aload_n hx hb dX14_value_0 rfl (lv_at hl 0 rfl) ?_
  obtain ⟨v_2, e_1, h⟩ := bo_ex h
  refine r_pgr (r := (some t0)) X hP lk_13 1 (Nat.le_of_ble_eq_true rfl) e_1 q913 dX14_value_1 ?_
  refine lv_aload_n hx hb dX14_value_4 rfl (lv_at hl 1 rfl) ?_
  obtain ⟨r_4, e_3, h⟩ := bo_ex h
  refine r_callN (r := v_2) (rest := []) X hP (hfv σ v_2 e_3) q997 (show f + 1 ≤ f + 2 by omega) (show 8 + (4 + 11) + lo ≤ lo + 60 by omega) hl.1 (Nat.le_of_ble_eq_true rfl) dX14_value_5 ⟨Nat.le_of_ble_eq_true rfl, Nat.le_of_ble_eq_true rfl⟩ (fun H locs hP => ?_)
  refine lv_istore_n (lv' := [(2, .int r_4), (0, .ref t0), (1, .ref (G.2.2.1 13))]) hx hb dX14_value_8 rfl hl (by decide) rfl (fun ls hl => ?_)
  refine lv_aload_n hx hb dX14_value_9 rfl (lv_at hl 1 rfl) ?_
  obtain ⟨v_6, e_5, h⟩ := bo_ex h
  refine r_pgr (r := (some t0)) X hP lk_13 2 (Nat.le_of_ble_eq_true rfl) e_5 q914 dX14_value_10 ?_
  refine lv_aload_n hx hb dX14_value_13 rfl (lv_at hl 2 rfl) ?_
  obtain ⟨r_8, e_7, h⟩ := bo_ex h
  refine r_callN (r := v_6) (rest := []) X hP (hfv σ v_6 e_7) q997 (show f + 1 ≤ f + 2 by omega) (show 8 + (4 + 11) + lo ≤ lo + 60 by omega) hl.1 (Nat.le_of_ble_eq_true rfl) dX14_value_14 ⟨Nat.le_of_ble_eq_true rfl, Nat.le_of_ble_eq_true rfl⟩ (fun H locs hP => ?_)
  refine lv_istore_n (lv' := [(3, .int r_8), (2, .int r_4), (0, .ref t0), (1, .ref (G.2.2.1 13))]) hx hb dX14_value_17 rfl hl (by decide) rfl (fun ls hl => ?_)
  refine lv_aload_n hx hb dX14_value_18 rfl (lv_at hl 2 rfl) ?_
  obtain ⟨v_10, e_9, h⟩ := bo_ex h
  refine r_pgi (r := (some t0)) X hP lk_13 0 (Nat.le_of_ble_eq_true rfl) e_9 q912 dX14_value_19 ?_
  have hK_11 : ∀ (H : Heap) (locs : List Loc) (ls : Array Slot), pr_value_K250 fv σ r_4 r_8 = some r → PS cp_ft G s σ H locs → lv_has ls 4 [(2, .int r_4), (3, .int r_8)] → W p l e (rmf (f + 2) (lo + 60)) s m args below meth c H locs 0 0 Q (F0 m 250 ls []) := by
    intro  H locs ls h hP hl
    unfold pr_value_K250 at h
    refine lv_iload_n hx hb dX14_value_250 rfl (lv_at hl 0 rfl) ?_
    obtain ⟨x_19, h_20, h⟩ := bo_ex h
    have hJ_21 : ∀ (H : Heap) (locs : List Loc) (ls : Array Slot), PS cp_ft G s σ H locs → lv_has ls 4 [] → W p l e (rmf (f + 2) (lo + 60)) s m args below meth c H locs 0 0 Q (F0 m 263 ls [.int x_19]) := by
      intro H locs ls hP hl
      obtain ⟨r_23, e_22, h⟩ := bo_ex h
      refine r_calli (r_runS (rest := []) X hP (mt_X14_is l G σ x_19 e_22) (va_cwS 1 hts (lw_S q1001 q1002 q137 q1003) rfl rfl rfl cdX14_is (rm_le (by omega) (by omega))) rfl hl.1 rfl (Nat.le_of_ble_eq_true rfl) dX14_value_263 ⟨Nat.le_refl _, Nat.le_refl _⟩) hP (fun H locs hP => ?_)
      exact hret _ _ _ _ _ _ dX14_value_266 rfl (congrArg (fun z9 => (z9, σ)) (Option.some.inj h)) hP
    refine lv_if_ne (tgt := 258) hx hb dX14_value_251 (by decide) (fun c_24 => ?_) (fun c_24 => ?_)
    · have h_20 := it_f h_20 c_24
      refine lv_iconst (v := (1 : Int32)) hx hb dX14_value_258 (by decide) ?_
      refine lv_goto (tgt := 263) hx hb dX14_value_259 (by decide) ?_
      obtain rfl := Option.some.inj h_20
      exact hJ_21 _ _ _ hP (lv_sub hl [] rfl)
    · have h_20 := it_t h_20 c_24
      refine lv_iload_n hx hb dX14_value_254 rfl (lv_at hl 1 rfl) ?_
      refine lv_if_eq (tgt := 262) hx hb dX14_value_255 (by decide) (fun c_25 => ?_) (fun c_25 => ?_)
      · have h_20 := it_t h_20 c_25
        refine lv_iconst (v := (0 : Int32)) hx hb dX14_value_262 (by decide) ?_
        obtain rfl := Option.some.inj h_20
        exact hJ_21 _ _ _ hP (lv_sub hl [] rfl)
      · have h_20 := it_f h_20 c_25
        refine lv_iconst (v := (1 : Int32)) hx hb dX14_value_258 (by decide) ?_
        refine lv_goto (tgt := 263) hx hb dX14_value_259 (by decide) ?_
        obtain rfl := Option.some.inj h_20
        exact hJ_21 _ _ _ hP (lv_sub hl [] rfl)
  by_cases c_26 : v_10 = (37 : Int32)
  · have h := it_t h c_26
    refine lv_tableIn (tgt := 174) hx hb dX14_value_22 (by rw [c_26]; decide) (by rw [c_26]; decide) (by rw [c_26]; rfl) (by decide) ?_
    refine lv_iload_n hx hb dX14_value_174 rfl (lv_at hl 0 rfl) ?_
    refine lv_if_eq (tgt := 183) hx hb dX14_value_175 (by decide) (fun c_27 => ?_) (fun c_27 => ?_)
    · have h := it_t h c_27
      refine lv_iconst (v := (0 : Int32)) hx hb dX14_value_183 (by decide) ?_
      refine lv_goto (tgt := 190) hx hb dX14_value_184 (by decide) ?_
      exact hret _ _ _ _ _ _ dX14_value_190 rfl (congrArg (fun z9 => (z9, σ)) (Option.some.inj h)) hP
    · have h := it_f h c_27
      refine lv_iload_n hx hb dX14_value_178 rfl (lv_at hl 0 rfl) ?_
      refine lv_iconst (v := (-1 : Int32)) hx hb dX14_value_179 (by decide) ?_
      refine lv_icmp_ne (tgt := 187) hx hb dX14_value_180 (by decide) (fun c_28 => ?_) (fun c_28 => ?_)
      · have h := it_f h c_28
        refine lv_iload_n hx hb dX14_value_187 rfl (lv_at hl 1 rfl) ?_
        refine lv_iload_n hx hb dX14_value_188 rfl (lv_at hl 0 rfl) ?_
        refine lv_irem hx hb dX14_value_189 (nz_ne h) ?_
        have h := nz_k h
        exact hret _ _ _ _ _ _ dX14_value_190 rfl (congrArg (fun z9 => (z9, σ)) (Option.some.inj h)) hP
      · have h := it_t h c_28
        refine lv_iconst (v := (0 : Int32)) hx hb dX14_value_183 (by decide) ?_
        refine lv_goto (tgt := 190) hx hb dX14_value_184 (by decide) ?_
        exact hret _ _ _ _ _ _ dX14_value_190 rfl (congrArg (fun z9 => (z9, σ)) (Option.some.inj h)) hP
  · have h := it_f h c_26
    by_cases c_29 : v_10 = (38 : Int32)
    · have h := it_t h c_29
      refine lv_tableIn (tgt := 233) hx hb dX14_value_22 (by rw [c_29]; decide) (by rw [c_29]; decide) (by rw [c_29]; rfl) (by decide) ?_
      refine lv_iload_n hx hb dX14_value_233 rfl (lv_at hl 1 rfl) ?_
      obtain ⟨x_30, h_31, h⟩ := bo_ex h
      have hJ_32 : ∀ (H : Heap) (locs : List Loc) (ls : Array Slot), PS cp_ft G s σ H locs → lv_has ls 4 [] → W p l e (rmf (f + 2) (lo + 60)) s m args below meth c H locs 0 0 Q (F0 m 246 ls [.int x_30]) := by
        intro H locs ls hP hl
        obtain ⟨r_34, e_33, h⟩ := bo_ex h
        refine r_calli (r_runS (rest := []) X hP (mt_X14_is l G σ x_30 e_33) (va_cwS 1 hts (lw_S q1001 q1002 q137 q1003) rfl rfl rfl cdX14_is (rm_le (by omega) (by omega))) rfl hl.1 rfl (Nat.le_of_ble_eq_true rfl) dX14_value_246 ⟨Nat.le_refl _, Nat.le_refl _⟩) hP (fun H locs hP => ?_)
        exact hret _ _ _ _ _ _ dX14_value_249 rfl (congrArg (fun z9 => (z9, σ)) (Option.some.inj h)) hP
      refine lv_if_eq (tgt := 245) hx hb dX14_value_234 (by decide) (fun c_35 => ?_) (fun c_35 => ?_)
      · have h_31 := it_t h_31 c_35
        refine lv_iconst (v := (0 : Int32)) hx hb dX14_value_245 (by decide) ?_
        obtain rfl := Option.some.inj h_31
        exact hJ_32 _ _ _ hP (lv_sub hl [] rfl)
      · have h_31 := it_f h_31 c_35
        refine lv_iload_n hx hb dX14_value_237 rfl (lv_at hl 0 rfl) ?_
        refine lv_if_eq (tgt := 245) hx hb dX14_value_238 (by decide) (fun c_36 => ?_) (fun c_36 => ?_)
        · have h_31 := it_t h_31 c_36
          refine lv_iconst (v := (0 : Int32)) hx hb dX14_value_245 (by decide) ?_
          obtain rfl := Option.some.inj h_31
          exact hJ_32 _ _ _ hP (lv_sub hl [] rfl)
        · have h_31 := it_f h_31 c_36
          refine lv_iconst (v := (1 : Int32)) hx hb dX14_value_241 (by decide) ?_
          refine lv_goto (tgt := 246) hx hb dX14_value_242 (by decide) ?_
          obtain rfl := Option.some.inj h_31
          exact hJ_32 _ _ _ hP (lv_sub hl [] rfl)
    · have h := it_f h c_29
      by_cases c_37 : v_10 = (39 : Int32)
      · have h := it_t h c_37
        refine lv_tableIn (tgt := 250) hx hb dX14_value_22 (by rw [c_37]; decide) (by rw [c_37]; decide) (by rw [c_37]; rfl) (by decide) ?_
        exact hK_11  _ _ _ h hP (lv_sub hl [1, 0] rfl)
      · have h := it_f h c_37
        by_cases c_38 : v_10 = (40 : Int32)
        · have h := it_t h c_38
          refine lv_tableIn (tgt := 250) hx hb dX14_value_22 (by rw [c_38]; decide) (by rw [c_38]; decide) (by rw [c_38]; rfl) (by decide) ?_
          exact hK_11  _ _ _ h hP (lv_sub hl [1, 0] rfl)
        · have h := it_f h c_38
          by_cases c_39 : v_10 = (41 : Int32)
          · have h := it_t h c_39
            refine lv_tableIn (tgt := 250) hx hb dX14_value_22 (by rw [c_39]; decide) (by rw [c_39]; decide) (by rw [c_39]; rfl) (by decide) ?_
            exact hK_11  _ _ _ h hP (lv_sub hl [1, 0] rfl)
          · have h := it_f h c_39
            by_cases c_40 : v_10 = (42 : Int32)
            · have h := it_t h c_40
              refine lv_tableIn (tgt := 148) hx hb dX14_value_22 (by rw [c_40]; decide) (by rw [c_40]; decide) (by rw [c_40]; rfl) (by decide) ?_
              refine lv_iload_n hx hb dX14_value_148 rfl (lv_at hl 1 rfl) ?_
              refine lv_iload_n hx hb dX14_value_149 rfl (lv_at hl 0 rfl) ?_
              refine lv_imul hx hb dX14_value_150 ?_
              exact hret _ _ _ _ _ _ dX14_value_151 rfl (congrArg (fun z9 => (z9, σ)) (Option.some.inj h)) hP
            · have h := it_f h c_40
              by_cases c_41 : v_10 = (43 : Int32)
              · have h := it_t h c_41
                refine lv_tableIn (tgt := 140) hx hb dX14_value_22 (by rw [c_41]; decide) (by rw [c_41]; decide) (by rw [c_41]; rfl) (by decide) ?_
                refine lv_iload_n hx hb dX14_value_140 rfl (lv_at hl 1 rfl) ?_
                refine lv_iload_n hx hb dX14_value_141 rfl (lv_at hl 0 rfl) ?_
                refine lv_iadd hx hb dX14_value_142 ?_
                exact hret _ _ _ _ _ _ dX14_value_143 rfl (congrArg (fun z9 => (z9, σ)) (Option.some.inj h)) hP
              · have h := it_f h c_41
                by_cases c_42 : v_10 = (44 : Int32)
                · have h := it_t h c_42
                  refine lv_tableIn (tgt := 250) hx hb dX14_value_22 (by rw [c_42]; decide) (by rw [c_42]; decide) (by rw [c_42]; rfl) (by decide) ?_
                  exact hK_11  _ _ _ h hP (lv_sub hl [1, 0] rfl)
                · have h := it_f h c_42
                  by_cases c_43 : v_10 = (45 : Int32)
                  · have h := it_t h c_43
                    refine lv_tableIn (tgt := 144) hx hb dX14_value_22 (by rw [c_43]; decide) (by rw [c_43]; decide) (by rw [c_43]; rfl) (by decide) ?_
                    refine lv_iload_n hx hb dX14_value_144 rfl (lv_at hl 1 rfl) ?_
                    refine lv_iload_n hx hb dX14_value_145 rfl (lv_at hl 0 rfl) ?_
                    refine lv_isub hx hb dX14_value_146 ?_
                    exact hret _ _ _ _ _ _ dX14_value_147 rfl (congrArg (fun z9 => (z9, σ)) (Option.some.inj h)) hP
                  · have h := it_f h c_43
                    by_cases c_44 : v_10 = (46 : Int32)
                    · have h := it_t h c_44
                      refine lv_tableIn (tgt := 250) hx hb dX14_value_22 (by rw [c_44]; decide) (by rw [c_44]; decide) (by rw [c_44]; rfl) (by decide) ?_
                      exact hK_11  _ _ _ h hP (lv_sub hl [1, 0] rfl)
                    · have h := it_f h c_44
                      by_cases c_45 : v_10 = (47 : Int32)
                      · have h := it_t h c_45
                        refine lv_tableIn (tgt := 152) hx hb dX14_value_22 (by rw [c_45]; decide) (by rw [c_45]; decide) (by rw [c_45]; rfl) (by decide) ?_
                        refine lv_iload_n hx hb dX14_value_152 rfl (lv_at hl 0 rfl) ?_
                        refine lv_if_ne (tgt := 160) hx hb dX14_value_153 (by decide) (fun c_46 => ?_) (fun c_46 => ?_)
                        · have h := it_f h c_46
                          refine lv_iload_n hx hb dX14_value_160 rfl (lv_at hl 0 rfl) ?_
                          refine lv_iconst (v := (-1 : Int32)) hx hb dX14_value_161 (by decide) ?_
                          refine lv_icmp_ne (tgt := 170) hx hb dX14_value_162 (by decide) (fun c_47 => ?_) (fun c_47 => ?_)
                          · have h := it_f h c_47
                            refine lv_iload_n hx hb dX14_value_170 rfl (lv_at hl 1 rfl) ?_
                            refine lv_iload_n hx hb dX14_value_171 rfl (lv_at hl 0 rfl) ?_
                            refine lv_idiv hx hb dX14_value_172 (nz_ne h) ?_
                            have h := nz_k h
                            exact hret _ _ _ _ _ _ dX14_value_173 rfl (congrArg (fun z9 => (z9, σ)) (Option.some.inj h)) hP
                          · have h := it_t h c_47
                            refine lv_iload_n hx hb dX14_value_165 rfl (lv_at hl 1 rfl) ?_
                            refine lv_ineg hx hb dX14_value_166 ?_
                            refine lv_goto (tgt := 173) hx hb dX14_value_167 (by decide) ?_
                            exact hret _ _ _ _ _ _ dX14_value_173 rfl (congrArg (fun z9 => (z9, σ)) (Option.some.inj h)) hP
                        · have h := it_t h c_46
                          refine lv_iconst (v := (0 : Int32)) hx hb dX14_value_156 (by decide) ?_
                          refine lv_goto (tgt := 173) hx hb dX14_value_157 (by decide) ?_
                          exact hret _ _ _ _ _ _ dX14_value_173 rfl (congrArg (fun z9 => (z9, σ)) (Option.some.inj h)) hP
                      · have h := it_f h c_45
                        by_cases c_48 : v_10 = (48 : Int32)
                        · have h := it_t h c_48
                          refine lv_tableIn (tgt := 250) hx hb dX14_value_22 (by rw [c_48]; decide) (by rw [c_48]; decide) (by rw [c_48]; rfl) (by decide) ?_
                          exact hK_11  _ _ _ h hP (lv_sub hl [1, 0] rfl)
                        · have h := it_f h c_48
                          by_cases c_49 : v_10 = (49 : Int32)
                          · have h := it_t h c_49
                            refine lv_tableIn (tgt := 250) hx hb dX14_value_22 (by rw [c_49]; decide) (by rw [c_49]; decide) (by rw [c_49]; rfl) (by decide) ?_
                            exact hK_11  _ _ _ h hP (lv_sub hl [1, 0] rfl)
                          · have h := it_f h c_49
                            by_cases c_50 : v_10 = (50 : Int32)
                            · have h := it_t h c_50
                              refine lv_tableIn (tgt := 250) hx hb dX14_value_22 (by rw [c_50]; decide) (by rw [c_50]; decide) (by rw [c_50]; rfl) (by decide) ?_
                              exact hK_11  _ _ _ h hP (lv_sub hl [1, 0] rfl)
                            · have h := it_f h c_50
                              by_cases c_51 : v_10 = (51 : Int32)
                              · have h := it_t h c_51
                                refine lv_tableIn (tgt := 250) hx hb dX14_value_22 (by rw [c_51]; decide) (by rw [c_51]; decide) (by rw [c_51]; rfl) (by decide) ?_
                                exact hK_11  _ _ _ h hP (lv_sub hl [1, 0] rfl)
                              · have h := it_f h c_51
                                by_cases c_52 : v_10 = (52 : Int32)
                                · have h := it_t h c_52
                                  refine lv_tableIn (tgt := 250) hx hb dX14_value_22 (by rw [c_52]; decide) (by rw [c_52]; decide) (by rw [c_52]; rfl) (by decide) ?_
                                  exact hK_11  _ _ _ h hP (lv_sub hl [1, 0] rfl)
                                · have h := it_f h c_52
                                  by_cases c_53 : v_10 = (53 : Int32)
                                  · have h := it_t h c_53
                                    refine lv_tableIn (tgt := 250) hx hb dX14_value_22 (by rw [c_53]; decide) (by rw [c_53]; decide) (by rw [c_53]; rfl) (by decide) ?_
                                    exact hK_11  _ _ _ h hP (lv_sub hl [1, 0] rfl)
                                  · have h := it_f h c_53
                                    by_cases c_54 : v_10 = (54 : Int32)
                                    · have h := it_t h c_54
                                      refine lv_tableIn (tgt := 250) hx hb dX14_value_22 (by rw [c_54]; decide) (by rw [c_54]; decide) (by rw [c_54]; rfl) (by decide) ?_
                                      exact hK_11  _ _ _ h hP (lv_sub hl [1, 0] rfl)
                                    · have h := it_f h c_54
                                      by_cases c_55 : v_10 = (55 : Int32)
                                      · have h := it_t h c_55
                                        refine lv_tableIn (tgt := 250) hx hb dX14_value_22 (by rw [c_55]; decide) (by rw [c_55]; decide) (by rw [c_55]; rfl) (by decide) ?_
                                        exact hK_11  _ _ _ h hP (lv_sub hl [1, 0] rfl)
                                      · have h := it_f h c_55
                                        by_cases c_56 : v_10 = (56 : Int32)
                                        · have h := it_t h c_56
                                          refine lv_tableIn (tgt := 250) hx hb dX14_value_22 (by rw [c_56]; decide) (by rw [c_56]; decide) (by rw [c_56]; rfl) (by decide) ?_
                                          exact hK_11  _ _ _ h hP (lv_sub hl [1, 0] rfl)
                                        · have h := it_f h c_56
                                          by_cases c_57 : v_10 = (57 : Int32)
                                          · have h := it_t h c_57
                                            refine lv_tableIn (tgt := 250) hx hb dX14_value_22 (by rw [c_57]; decide) (by rw [c_57]; decide) (by rw [c_57]; rfl) (by decide) ?_
                                            exact hK_11  _ _ _ h hP (lv_sub hl [1, 0] rfl)
                                          · have h := it_f h c_57
                                            by_cases c_58 : v_10 = (58 : Int32)
                                            · have h := it_t h c_58
                                              refine lv_tableIn (tgt := 250) hx hb dX14_value_22 (by rw [c_58]; decide) (by rw [c_58]; decide) (by rw [c_58]; rfl) (by decide) ?_
                                              exact hK_11  _ _ _ h hP (lv_sub hl [1, 0] rfl)
                                            · have h := it_f h c_58
                                              by_cases c_59 : v_10 = (59 : Int32)
                                              · have h := it_t h c_59
                                                refine lv_tableIn (tgt := 250) hx hb dX14_value_22 (by rw [c_59]; decide) (by rw [c_59]; decide) (by rw [c_59]; rfl) (by decide) ?_
                                                exact hK_11  _ _ _ h hP (lv_sub hl [1, 0] rfl)
                                              · have h := it_f h c_59
                                                by_cases c_60 : v_10 = (60 : Int32)
                                                · have h := it_t h c_60
                                                  refine lv_tableIn (tgt := 191) hx hb dX14_value_22 (by rw [c_60]; decide) (by rw [c_60]; decide) (by rw [c_60]; rfl) (by decide) ?_
                                                  refine lv_iload_n hx hb dX14_value_191 rfl (lv_at hl 1 rfl) ?_
                                                  refine lv_iload_n hx hb dX14_value_192 rfl (lv_at hl 0 rfl) ?_
                                                  obtain ⟨x_61, h_62, h⟩ := bo_ex h
                                                  have hJ_63 : ∀ (H : Heap) (locs : List Loc) (ls : Array Slot), PS cp_ft G s σ H locs → lv_has ls 4 [] → W p l e (rmf (f + 2) (lo + 60)) s m args below meth c H locs 0 0 Q (F0 m 201 ls [.int x_61]) := by
                                                    intro H locs ls hP hl
                                                    obtain ⟨r_65, e_64, h⟩ := bo_ex h
                                                    refine r_calli (r_runS (rest := []) X hP (mt_X14_is l G σ x_61 e_64) (va_cwS 1 hts (lw_S q1001 q1002 q137 q1003) rfl rfl rfl cdX14_is (rm_le (by omega) (by omega))) rfl hl.1 rfl (Nat.le_of_ble_eq_true rfl) dX14_value_201 ⟨Nat.le_refl _, Nat.le_refl _⟩) hP (fun H locs hP => ?_)
                                                    exact hret _ _ _ _ _ _ dX14_value_204 rfl (congrArg (fun z9 => (z9, σ)) (Option.some.inj h)) hP
                                                  refine lv_icmp_ge (tgt := 200) hx hb dX14_value_193 (by decide) (fun c_66 => ?_) (fun c_66 => ?_)
                                                  · have h_62 := it_t h_62 c_66
                                                    refine lv_iconst (v := (0 : Int32)) hx hb dX14_value_200 (by decide) ?_
                                                    obtain rfl := Option.some.inj h_62
                                                    exact hJ_63 _ _ _ hP (lv_sub hl [] rfl)
                                                  · have h_62 := it_f h_62 c_66
                                                    refine lv_iconst (v := (1 : Int32)) hx hb dX14_value_196 (by decide) ?_
                                                    refine lv_goto (tgt := 201) hx hb dX14_value_197 (by decide) ?_
                                                    obtain rfl := Option.some.inj h_62
                                                    exact hJ_63 _ _ _ hP (lv_sub hl [] rfl)
                                                · have h := it_f h c_60
                                                  by_cases c_67 : v_10 = (61 : Int32)
                                                  · have h := it_t h c_67
                                                    refine lv_tableIn (tgt := 205) hx hb dX14_value_22 (by rw [c_67]; decide) (by rw [c_67]; decide) (by rw [c_67]; rfl) (by decide) ?_
                                                    refine lv_iload_n hx hb dX14_value_205 rfl (lv_at hl 1 rfl) ?_
                                                    refine lv_iload_n hx hb dX14_value_206 rfl (lv_at hl 0 rfl) ?_
                                                    obtain ⟨x_68, h_69, h⟩ := bo_ex h
                                                    have hJ_70 : ∀ (H : Heap) (locs : List Loc) (ls : Array Slot), PS cp_ft G s σ H locs → lv_has ls 4 [] → W p l e (rmf (f + 2) (lo + 60)) s m args below meth c H locs 0 0 Q (F0 m 215 ls [.int x_68]) := by
                                                      intro H locs ls hP hl
                                                      obtain ⟨r_72, e_71, h⟩ := bo_ex h
                                                      refine r_calli (r_runS (rest := []) X hP (mt_X14_is l G σ x_68 e_71) (va_cwS 1 hts (lw_S q1001 q1002 q137 q1003) rfl rfl rfl cdX14_is (rm_le (by omega) (by omega))) rfl hl.1 rfl (Nat.le_of_ble_eq_true rfl) dX14_value_215 ⟨Nat.le_refl _, Nat.le_refl _⟩) hP (fun H locs hP => ?_)
                                                      exact hret _ _ _ _ _ _ dX14_value_218 rfl (congrArg (fun z9 => (z9, σ)) (Option.some.inj h)) hP
                                                    refine lv_icmp_ne (tgt := 214) hx hb dX14_value_207 (by decide) (fun c_73 => ?_) (fun c_73 => ?_)
                                                    · have h_69 := it_f h_69 c_73
                                                      refine lv_iconst (v := (0 : Int32)) hx hb dX14_value_214 (by decide) ?_
                                                      obtain rfl := Option.some.inj h_69
                                                      exact hJ_70 _ _ _ hP (lv_sub hl [] rfl)
                                                    · have h_69 := it_t h_69 c_73
                                                      refine lv_iconst (v := (1 : Int32)) hx hb dX14_value_210 (by decide) ?_
                                                      refine lv_goto (tgt := 215) hx hb dX14_value_211 (by decide) ?_
                                                      obtain rfl := Option.some.inj h_69
                                                      exact hJ_70 _ _ _ hP (lv_sub hl [] rfl)
                                                  · have h := it_f h c_67
                                                    by_cases c_74 : v_10 = (62 : Int32)
                                                    · have h := it_t h c_74
                                                      refine lv_tableIn (tgt := 219) hx hb dX14_value_22 (by rw [c_74]; decide) (by rw [c_74]; decide) (by rw [c_74]; rfl) (by decide) ?_
                                                      refine lv_iload_n hx hb dX14_value_219 rfl (lv_at hl 1 rfl) ?_
                                                      refine lv_iload_n hx hb dX14_value_220 rfl (lv_at hl 0 rfl) ?_
                                                      obtain ⟨x_75, h_76, h⟩ := bo_ex h
                                                      have hJ_77 : ∀ (H : Heap) (locs : List Loc) (ls : Array Slot), PS cp_ft G s σ H locs → lv_has ls 4 [] → W p l e (rmf (f + 2) (lo + 60)) s m args below meth c H locs 0 0 Q (F0 m 229 ls [.int x_75]) := by
                                                        intro H locs ls hP hl
                                                        obtain ⟨r_79, e_78, h⟩ := bo_ex h
                                                        refine r_calli (r_runS (rest := []) X hP (mt_X14_is l G σ x_75 e_78) (va_cwS 1 hts (lw_S q1001 q1002 q137 q1003) rfl rfl rfl cdX14_is (rm_le (by omega) (by omega))) rfl hl.1 rfl (Nat.le_of_ble_eq_true rfl) dX14_value_229 ⟨Nat.le_refl _, Nat.le_refl _⟩) hP (fun H locs hP => ?_)
                                                        exact hret _ _ _ _ _ _ dX14_value_232 rfl (congrArg (fun z9 => (z9, σ)) (Option.some.inj h)) hP
                                                      refine lv_icmp_le (tgt := 228) hx hb dX14_value_221 (by decide) (fun c_80 => ?_) (fun c_80 => ?_)
                                                      · have h_76 := it_t h_76 c_80
                                                        refine lv_iconst (v := (0 : Int32)) hx hb dX14_value_228 (by decide) ?_
                                                        obtain rfl := Option.some.inj h_76
                                                        exact hJ_77 _ _ _ hP (lv_sub hl [] rfl)
                                                      · have h_76 := it_f h_76 c_80
                                                        refine lv_iconst (v := (1 : Int32)) hx hb dX14_value_224 (by decide) ?_
                                                        refine lv_goto (tgt := 229) hx hb dX14_value_225 (by decide) ?_
                                                        obtain rfl := Option.some.inj h_76
                                                        exact hJ_77 _ _ _ hP (lv_sub hl [] rfl)
                                                    · have h := it_f h c_74
                                                      refine lv_tableOut (tgt := 250) hx hb dX14_value_22 (by have n0 := lv_neT c_26 (a := 37) (by decide); have n1 := lv_neT c_29 (a := 38) (by decide); have n2 := lv_neT c_37 (a := 39) (by decide); have n3 := lv_neT c_38 (a := 40) (by decide); have n4 := lv_neT c_39 (a := 41) (by decide); have n5 := lv_neT c_40 (a := 42) (by decide); have n6 := lv_neT c_41 (a := 43) (by decide); have n7 := lv_neT c_42 (a := 44) (by decide); have n8 := lv_neT c_43 (a := 45) (by decide); have n9 := lv_neT c_44 (a := 46) (by decide); have n10 := lv_neT c_45 (a := 47) (by decide); have n11 := lv_neT c_48 (a := 48) (by decide); have n12 := lv_neT c_49 (a := 49) (by decide); have n13 := lv_neT c_50 (a := 50) (by decide); have n14 := lv_neT c_51 (a := 51) (by decide); have n15 := lv_neT c_52 (a := 52) (by decide); have n16 := lv_neT c_53 (a := 53) (by decide); have n17 := lv_neT c_54 (a := 54) (by decide); have n18 := lv_neT c_55 (a := 55) (by decide); have n19 := lv_neT c_56 (a := 56) (by decide); have n20 := lv_neT c_57 (a := 57) (by decide); have n21 := lv_neT c_58 (a := 58) (by decide); have n22 := lv_neT c_59 (a := 59) (by decide); have n23 := lv_neT c_60 (a := 60) (by decide); have n24 := lv_neT c_67 (a := 61) (by decide); have n25 := lv_neT c_74 (a := 62) (by decide); omega) (by decide) ?_
                                                      exact hK_11  _ _ _ h hP (lv_sub hl [1, 0] rfl)
def nvB (fv : ST → Option Nat → Option Int32) (σ : ST) (r : Option Nat) : Option Int32 := bo2 (pcl σ r) fun (a c : Nat) => if c = 12 then lf_value fv σ a else if c = 9 then nm_value fv σ a else if c = 11 then tn_value fv σ a else if c = 10 then dn_value fv σ a else if c = 13 then pr_value fv σ a else none
def nv : Nat → ST → Option Nat → Option Int32
  | 0, _, _ => none
  | n + 1, σ, r => nvB (nv n) σ r
theorem nv_ok (l : Launch) (G : GT) : ∀ (n : Nat) (σ : ST) (r : Option Nat) {v : Int32}, nv n σ r = some v → NOK l G (n * 2) (n * 60) σ r v := by
  intro n
  induction n with
  | zero => intro σ r v h; cases h
  | succ n ih =>
    intro σ r v h
    have h : nvB (nv n) σ r = some v := h
    unfold nvB at h
    obtain ⟨a, c, e, h9⟩ := bo2_ex h
    clear h
    obtain ⟨rfl, fs, hg⟩ := pcl_ex e
    have h := h9
    rw [Nat.succ_mul, Nat.succ_mul]
    refine ⟨a, rfl, ?_⟩
    by_cases c12 : c = 12
    · subst c12
      have h := it_t h rfl
      exact Or.inl ⟨⟨fs, hg⟩, mt_X13_value l G (nv n) (fun σ r => ih σ r) σ a h⟩
    have h := it_f h c12
    by_cases c9 : c = 9
    · subst c9
      have h := it_t h rfl
      exact Or.inr (Or.inl ⟨⟨fs, hg⟩, mt_X10_value l G (nv n) (fun σ r => ih σ r) σ a h⟩)
    have h := it_f h c9
    by_cases c11 : c = 11
    · subst c11
      have h := it_t h rfl
      exact Or.inr (Or.inr (Or.inl ⟨⟨fs, hg⟩, mt_X12_value l G (nv n) (fun σ r => ih σ r) σ a h⟩))
    have h := it_f h c11
    by_cases c10 : c = 10
    · subst c10
      have h := it_t h rfl
      exact Or.inr (Or.inr (Or.inr (Or.inl ⟨⟨fs, hg⟩, mt_X11_value l G (nv n) (fun σ r => ih σ r) σ a h⟩)))
    have h := it_f h c10
    by_cases c13 : c = 13
    · subst c13
      have h := it_t h rfl
      exact Or.inr (Or.inr (Or.inr (Or.inr (⟨⟨fs, hg⟩, mt_X14_value l G (nv n) (fun σ r => ih σ r) σ a h⟩))))
    have h := it_f h c13
    cases h
abbrev ND : Nat := 130
def cp_in (a0 : Int32) (a1 : Int32) (a2 : Int32) : Option Int32 :=
  (if a0 < a1 then some (0 : Int32) else (if a2 < a0 then some (0 : Int32) else some (1 : Int32)))
abbrev rm_X0_in : Room := rmf 0 0
set_option maxHeartbeats 4000000 in
set_option maxRecDepth 100000 in
theorem mt_X0_in (l : Launch) (G : GT) (σ : ST) (a0 : Int32) (a1 : Int32) (a2 : Int32) {r : Int32} (h : cp_in a0 a1 a2 = some r) : CI l cp_ft G yX0_in (ws_ yX0_in cX0_in 3 (some .boolean)) rm_X0_in 0 0 [.int a0, .int a1, .int a2] σ (r, σ) := by
  refine m_enterI (by decide) rfl (lv := [(0, .int a0), (1, .int a1), (2, .int a2)]) rfl ?_
  intro p e s m args below meth c H locs ls Q X hret hP hl
  have hx := X.1.1
  have hb := X.1.2.1
  have hown := X.1.2.2.2.1
  have hts := X.1.2.2.2.2
  unfold cp_in at h
  refine lv_iload_n hx hb dX0_in_0 rfl (lv_at hl 0 rfl) ?_
  refine lv_iload_n hx hb dX0_in_1 rfl (lv_at hl 1 rfl) ?_
  refine lv_icmp_lt (tgt := 14) hx hb dX0_in_2 (by decide) (fun c_1 => ?_) (fun c_1 => ?_)
  · have h := it_t h c_1
    refine lv_iconst (v := (0 : Int32)) hx hb dX0_in_14 (by decide) ?_
    exact hret _ _ _ _ _ _ dX0_in_15 rfl (congrArg (fun z9 => (z9, σ)) (Option.some.inj h)) hP
  · have h := it_f h c_1
    refine lv_iload_n hx hb dX0_in_5 rfl (lv_at hl 0 rfl) ?_
    refine lv_iload_n hx hb dX0_in_6 rfl (lv_at hl 2 rfl) ?_
    refine lv_icmp_gt (tgt := 14) hx hb dX0_in_7 (by decide) (fun c_2 => ?_) (fun c_2 => ?_)
    · have h := it_t h c_2
      refine lv_iconst (v := (0 : Int32)) hx hb dX0_in_14 (by decide) ?_
      exact hret _ _ _ _ _ _ dX0_in_15 rfl (congrArg (fun z9 => (z9, σ)) (Option.some.inj h)) hP
    · have h := it_f h c_2
      refine lv_iconst (v := (1 : Int32)) hx hb dX0_in_10 (by decide) ?_
      refine lv_goto (tgt := 15) hx hb dX0_in_11 (by decide) ?_
      exact hret _ _ _ _ _ _ dX0_in_15 rfl (congrArg (fun z9 => (z9, σ)) (Option.some.inj h)) hP
def pe_init (σ : ST) (t0 : Nat) (a1 : Int32) (a2 : Int32) (a3 : Int32) (a4 : Int32) : Option ST :=
  bo (ppv σ (some t0) 4 1 (.int a1)) (fun (σ_2 : ST) => bo (ppv σ_2 (some t0) 4 2 (.int a2)) (fun (σ_4 : ST) => bo (ppv σ_4 (some t0) 4 0 (.int a3)) (fun (σ_6 : ST) => bo (ppv σ_6 (some t0) 4 3 (.int a4)) (fun (σ_8 : ST) => some σ_8))))
abbrev rm_X4_init : Room := rmf 1 12
set_option maxHeartbeats 4000000 in
set_option maxRecDepth 100000 in
theorem mt_X4_init (l : Launch) (G : GT) (σ : ST) (t0 : Nat) (a1 : Int32) (a2 : Int32) (a3 : Int32) (a4 : Int32) {u : ST} (h : pe_init σ t0 a1 a2 a3 a4 = some u) : CV l cp_ft G yX4_init (ws_ yX4_init cX4_init 5 none) rm_X4_init 0 0 [.ref t0, .int a1, .int a2, .int a3, .int a4] σ u := by
  refine m_enterV (by decide) rfl (lv := [(0, .ref t0), (1, .int a1), (2, .int a2), (3, .int a3), (4, .int a4)]) rfl ?_
  intro p e s m args below meth c H locs ls Q X hnm hret hP hl
  have hx := X.1.1
  have hb := X.1.2.1
  have hown := X.1.2.2.2.1
  have hts := X.1.2.2.2.2
  unfold pe_init at h
  refine lv_aload_n hx hb dX4_init_0 rfl (lv_at hl 0 rfl) ?_
  refine W.objInit hx hb hown (hts _ q403) (hts _ q163) (hts _ q164) rfl (by rw [X.1.2.2.1]; exact hl.1) rfl dX4_init_1 (Nat.le_of_ble_eq_true rfl) (Nat.le_of_ble_eq_true rfl) ?_
  refine W.eq (g2 := F0 m 4 ls []) rfl ?_
  refine lv_aload_n hx hb dX4_init_4 rfl (lv_at hl 0 rfl) ?_
  refine lv_iload_n hx hb dX4_init_5 rfl (lv_at hl 1 rfl) ?_
  obtain ⟨σ_2, e_1, h⟩ := bo_ex h
  refine r_ppv (r := (some t0)) X hP lk_4 1 (Nat.le_of_ble_eq_true rfl) e_1 q407 rfl (tyX4_ok 1 (by decide)) rfl rfl dX4_init_6 (fun H locs hP => ?_)
  refine lv_aload_n hx hb dX4_init_9 rfl (lv_at hl 0 rfl) ?_
  refine lv_iload_n hx hb dX4_init_10 rfl (lv_at hl 2 rfl) ?_
  obtain ⟨σ_4, e_3, h⟩ := bo_ex h
  refine r_ppv (r := (some t0)) X hP lk_4 2 (Nat.le_of_ble_eq_true rfl) e_3 q410 rfl (tyX4_ok 2 (by decide)) rfl rfl dX4_init_11 (fun H locs hP => ?_)
  refine lv_aload_n hx hb dX4_init_14 rfl (lv_at hl 0 rfl) ?_
  refine lv_iload_n hx hb dX4_init_15 rfl (lv_at hl 3 rfl) ?_
  obtain ⟨σ_6, e_5, h⟩ := bo_ex h
  refine r_ppvF (r := (some t0)) X hP lk_4 0 (Nat.le_of_ble_eq_true rfl) e_5 q404 rfl hnm rfl (tyX4_ok 0 (by decide)) rfl rfl dX4_init_16 (fun H locs hP => ?_)
  refine lv_aload_n hx hb dX4_init_19 rfl (lv_at hl 0 rfl) ?_
  refine lv_iload hx hb dX4_init_20 (lv_at hl 4 rfl) ?_
  obtain ⟨σ_8, e_7, h⟩ := bo_ex h
  refine r_ppv (r := (some t0)) X hP lk_4 3 (Nat.le_of_ble_eq_true rfl) e_7 q413 rfl (tyX4_ok 3 (by decide)) rfl rfl dX4_init_22 (fun H locs hP => ?_)
  exact hret _ _ _ _ _ dX4_init_25 (Option.some.inj h) hP
def cp_person (σ : ST) (a1 : Int32) (a2 : Int32) : Option (Int32 × ST) :=
  bo (cp_in a1 (0 : Int32) (99 : Int32)) (fun (r_2 : Int32) => (if r_2 = 0 then some ((-1 : Int32), σ) else bo (cp_in a2 (0 : Int32) (9999 : Int32)) (fun (r_5 : Int32) => (if r_5 = 0 then some ((-1 : Int32), σ) else (if (gI σ 0 3) = (10 : Int32) then some ((-3 : Int32), σ) else st_ (aloc σ 4 [.int 0, .int 0, .int 0, .int 0] 4) (fun (σ_8 : ST) => nz (10 : Int32) (nz (10 : Int32) (nz (100 : Int32) (nz (100 : Int32) (bo (pe_init σ_8 (szo σ) (a1 / (10 : Int32)) (a1 - a1 / (10 : Int32) * (10 : Int32)) (a2 / (100 : Int32)) (a2 - a2 / (100 : Int32) * (100 : Int32))) (fun (σ_11 : ST) => ck (gI σ 0 3) 10 (bo (asr σ_11 0 0 (gI σ 0 3) (some (szo σ)) 4) (fun (σ_12 : ST) => st_ (pI σ_12 0 3 ((gI σ_12 0 3) + (1 : Int32))) (fun (σ_15 : ST) => some (((gI σ_15 0 3) - (1 : Int32)), σ_15)))))))))))))))
abbrev rm_X0_person : Room := rmc 2 36 1 4
set_option maxHeartbeats 4000000 in
set_option maxRecDepth 100000 in
theorem mt_X0_person (l : Launch) (G : GT) (hal : G.2.2.2.2 = true) (σ : ST) (a1 : Int32) (a2 : Int32) {r : Int32} {u : ST} (h : cp_person σ a1 a2 = some (r, u)) : CI l cp_ft G yX0_person (ws_ yX0_person cX0_person 3 (some .int)) rm_X0_person 1 4 [.ref (G.2.2.1 0), .int a1, .int a2] σ (r, u) := by
  refine m_enterI (by decide) rfl (lv := [(0, .ref (G.2.2.1 0)), (1, .int a1), (2, .int a2)]) rfl ?_
  intro p e s m args below meth c H locs ls Q X hret hP hl
  have hx := X.1.1
  have hb := X.1.2.1
  have hown := X.1.2.2.2.1
  have hts := X.1.2.2.2.2
  unfold cp_person at h
  refine lv_iload_n hx hb dX0_person_0 rfl (lv_at hl 1 rfl) ?_
  refine lv_iconst (v := (0 : Int32)) hx hb dX0_person_1 (by decide) ?_
  refine lv_bipush (v := (99 : Int32)) hx hb dX0_person_2 (by decide) ?_
  obtain ⟨r_2, e_1, h⟩ := bo_ex h
  refine r_calli (r_runS (rest := []) X hP (mt_X0_in l G σ a1 (0 : Int32) (99 : Int32) e_1) (va_cwS 3 hts (lw_S q396 q397 q110 q398) rfl rfl rfl cdX0_in ⟨Nat.le_of_ble_eq_true rfl, Nat.le_of_ble_eq_true rfl⟩) rfl hl.1 rfl (Nat.le_of_ble_eq_true rfl) dX0_person_4 ⟨Nat.le_of_ble_eq_true rfl, Nat.le_of_ble_eq_true rfl⟩) hP (fun H locs hP => ?_)
  refine lv_if_eq (tgt := 21) hx hb dX0_person_7 (by decide) (fun c_3 => ?_) (fun c_3 => ?_)
  · have h := it_t h c_3
    refine lv_iconst (v := (-1 : Int32)) hx hb dX0_person_21 (by decide) ?_
    refine W.widen (k := 1) (n := 4) (Nat.le_of_ble_eq_true rfl) (Nat.le_of_ble_eq_true rfl) ?_
    exact hret _ _ _ _ _ _ dX0_person_22 rfl (Option.some.inj h) hP
  · have h := it_f h c_3
    refine lv_iload_n hx hb dX0_person_10 rfl (lv_at hl 2 rfl) ?_
    refine lv_iconst (v := (0 : Int32)) hx hb dX0_person_11 (by decide) ?_
    refine lv_sipush (v := (9999 : Int32)) hx hb dX0_person_12 (by decide) ?_
    obtain ⟨r_5, e_4, h⟩ := bo_ex h
    refine r_calli (r_runS (rest := []) X hP (mt_X0_in l G σ a2 (0 : Int32) (9999 : Int32) e_4) (va_cwS 3 hts (lw_S q396 q397 q110 q398) rfl rfl rfl cdX0_in ⟨Nat.le_of_ble_eq_true rfl, Nat.le_of_ble_eq_true rfl⟩) rfl hl.1 rfl (Nat.le_of_ble_eq_true rfl) dX0_person_15 ⟨Nat.le_of_ble_eq_true rfl, Nat.le_of_ble_eq_true rfl⟩) hP (fun H locs hP => ?_)
    refine lv_if_ne (tgt := 23) hx hb dX0_person_18 (by decide) (fun c_6 => ?_) (fun c_6 => ?_)
    · have h := it_f h c_6
      refine lv_aload_n hx hb dX0_person_23 rfl (lv_at hl 0 rfl) ?_
      refine r_geti X hP 0 cp_c0 lk_0 3 (Nat.le_of_ble_eq_true rfl) q286 cp_f3 dX0_person_24 ?_
      refine lv_bipush (v := (10 : Int32)) hx hb dX0_person_27 (by decide) ?_
      refine lv_icmp_ne (tgt := 35) hx hb dX0_person_29 (by decide) (fun c_7 => ?_) (fun c_7 => ?_)
      · have h := it_f h c_7
        refine lv_aload_n hx hb dX0_person_35 rfl (lv_at hl 0 rfl) ?_
        refine r_geta X hP 0 cp_c0 lk_0 0 (Nat.le_of_ble_eq_true rfl) q280 cp_f0 dX0_person_36 ?_
        refine lv_aload_n hx hb dX0_person_39 rfl (lv_at hl 0 rfl) ?_
        refine r_geti X hP 0 cp_c0 lk_0 3 (Nat.le_of_ble_eq_true rfl) q286 cp_f3 dX0_person_40 ?_
        refine r_new X hal hP 4 lk_4 tyX4 tyX4_ok (fs := [.int 0, .int 0, .int 0, .int 0]) rfl q165 q399 q114 (Nat.le_of_ble_eq_true rfl) (Nat.le_of_ble_eq_true rfl) dX0_person_43 (fun σ_8 H e_9 hP => ?_)
        have h := st_k h e_9
        refine lv_dup hx hb dX0_person_46 rfl ?_
        refine lv_iload_n hx hb dX0_person_47 rfl (lv_at hl 1 rfl) ?_
        refine lv_bipush (v := (10 : Int32)) hx hb dX0_person_48 (by decide) ?_
        refine lv_idiv hx hb dX0_person_50 (nz_ne h) ?_
        have h := nz_k h
        refine lv_iload_n hx hb dX0_person_51 rfl (lv_at hl 1 rfl) ?_
        refine lv_bipush (v := (10 : Int32)) hx hb dX0_person_52 (by decide) ?_
        refine lv_irem hx hb dX0_person_54 (nz_ne h) ?_
        have h := nz_k h
        refine lv_iload_n hx hb dX0_person_55 rfl (lv_at hl 2 rfl) ?_
        refine lv_bipush (v := (100 : Int32)) hx hb dX0_person_56 (by decide) ?_
        refine lv_idiv hx hb dX0_person_58 (nz_ne h) ?_
        have h := nz_k h
        refine lv_iload_n hx hb dX0_person_59 rfl (lv_at hl 2 rfl) ?_
        refine lv_bipush (v := (100 : Int32)) hx hb dX0_person_60 (by decide) ?_
        refine lv_irem hx hb dX0_person_62 (nz_ne h) ?_
        have h := nz_k h
        obtain ⟨σ_11, e_10, h⟩ := bo_ex h
        refine r_callv (r_runI (rest := [.ref (szo σ), .int (gI σ 0 3), .ref (G.2.2.1 1)]) X hP (mt_X4_init l G σ_8 (szo σ) (a1 / (10 : Int32)) (a1 - a1 / (10 : Int32) * (10 : Int32)) (a2 / (100 : Int32)) (a2 - a2 / (100 : Int32) * (100 : Int32)) e_10) (cwI 4 hts (lw_meth q402) rfl rfl rfl (hts _ q114) (hts _ q400) (hts _ q401) rfl cdX4_init ⟨Nat.le_of_ble_eq_true rfl, Nat.le_of_ble_eq_true rfl⟩) rfl hl.1 rfl (Nat.le_of_ble_eq_true rfl) dX0_person_63 ⟨Nat.le_of_ble_eq_true rfl, Nat.le_of_ble_eq_true rfl⟩) hP (fun H locs hP => ?_)
        have h_14 := ck_in h
        have h := ck_k h
        obtain ⟨σ_12, e_13, h⟩ := bo_ex h
        refine r_aast (t := 0) (v := (some (szo σ))) X cp_w hP 1 cp_c1 lk_4 rfl e_13 h_14 dX0_person_66 (fun H locs hP => ?_)
        refine lv_aload_n hx hb dX0_person_67 rfl (lv_at hl 0 rfl) ?_
        refine lv_dup hx hb dX0_person_68 rfl ?_
        refine r_geti X hP 0 cp_c0 lk_0 3 (Nat.le_of_ble_eq_true rfl) q286 cp_f3 dX0_person_69 ?_
        refine lv_iconst (v := (1 : Int32)) hx hb dX0_person_72 (by decide) ?_
        refine lv_iadd hx hb dX0_person_73 ?_
        refine r_puti X cp_w hP 0 cp_c0 lk_0 3 (Nat.le_of_ble_eq_true rfl) q286 cp_f3 rfl (tyX0_ok 3 (by decide)) rfl rfl dX0_person_74 (fun σ_15 H locs e_16 hP => ?_)
        have h := st_k h e_16
        refine lv_aload_n hx hb dX0_person_77 rfl (lv_at hl 0 rfl) ?_
        refine r_geti X hP 0 cp_c0 lk_0 3 (Nat.le_of_ble_eq_true rfl) q286 cp_f3 dX0_person_78 ?_
        refine lv_iconst (v := (1 : Int32)) hx hb dX0_person_81 (by decide) ?_
        refine lv_isub hx hb dX0_person_82 ?_
        refine W.widen (k := 1) (n := 4) (Nat.le_of_ble_eq_true rfl) (Nat.le_of_ble_eq_true rfl) ?_
        exact hret _ _ _ _ _ _ dX0_person_83 rfl (Option.some.inj h) hP
      · have h := it_t h c_7
        refine lv_bipush (v := (-3 : Int32)) hx hb dX0_person_32 (by decide) ?_
        refine W.widen (k := 1) (n := 4) (Nat.le_of_ble_eq_true rfl) (Nat.le_of_ble_eq_true rfl) ?_
        exact hret _ _ _ _ _ _ dX0_person_34 rfl (Option.some.inj h) hP
    · have h := it_t h c_6
      refine lv_iconst (v := (-1 : Int32)) hx hb dX0_person_21 (by decide) ?_
      refine W.widen (k := 1) (n := 4) (Nat.le_of_ble_eq_true rfl) (Nat.le_of_ble_eq_true rfl) ?_
      exact hret _ _ _ _ _ _ dX0_person_22 rfl (Option.some.inj h) hP
def th_init (σ : ST) (t0 : Nat) (a1 : Int32) (a2 : Int32) : Option ST :=
  bo (ppv σ (some t0) 5 0 (.int a1)) (fun (σ_2 : ST) => bo (ppv σ_2 (some t0) 5 1 (.int a2)) (fun (σ_4 : ST) => some σ_4))
abbrev rm_X5_init : Room := rmf 1 12
set_option maxHeartbeats 4000000 in
set_option maxRecDepth 100000 in
theorem mt_X5_init (l : Launch) (G : GT) (σ : ST) (t0 : Nat) (a1 : Int32) (a2 : Int32) {u : ST} (h : th_init σ t0 a1 a2 = some u) : CV l cp_ft G yX5_init (ws_ yX5_init cX5_init 3 none) rm_X5_init 0 0 [.ref t0, .int a1, .int a2] σ u := by
  refine m_enterV (by decide) rfl (lv := [(0, .ref t0), (1, .int a1), (2, .int a2)]) rfl ?_
  intro p e s m args below meth c H locs ls Q X hnm hret hP hl
  have hx := X.1.1
  have hb := X.1.2.1
  have hown := X.1.2.2.2.1
  have hts := X.1.2.2.2.2
  unfold th_init at h
  refine lv_aload_n hx hb dX5_init_0 rfl (lv_at hl 0 rfl) ?_
  refine W.objInit hx hb hown (hts _ q433) (hts _ q163) (hts _ q164) rfl (by rw [X.1.2.2.1]; exact hl.1) rfl dX5_init_1 (Nat.le_of_ble_eq_true rfl) (Nat.le_of_ble_eq_true rfl) ?_
  refine W.eq (g2 := F0 m 4 ls []) rfl ?_
  refine lv_aload_n hx hb dX5_init_4 rfl (lv_at hl 0 rfl) ?_
  refine lv_iload_n hx hb dX5_init_5 rfl (lv_at hl 1 rfl) ?_
  obtain ⟨σ_2, e_1, h⟩ := bo_ex h
  refine r_ppv (r := (some t0)) X hP lk_5 0 (Nat.le_of_ble_eq_true rfl) e_1 q434 rfl (tyX5_ok 0 (by decide)) rfl rfl dX5_init_6 (fun H locs hP => ?_)
  refine lv_aload_n hx hb dX5_init_9 rfl (lv_at hl 0 rfl) ?_
  refine lv_iload_n hx hb dX5_init_10 rfl (lv_at hl 2 rfl) ?_
  obtain ⟨σ_4, e_3, h⟩ := bo_ex h
  refine r_ppv (r := (some t0)) X hP lk_5 1 (Nat.le_of_ble_eq_true rfl) e_3 q437 rfl (tyX5_ok 1 (by decide)) rfl rfl dX5_init_11 (fun H locs hP => ?_)
  exact hret _ _ _ _ _ dX5_init_14 (Option.some.inj h) hP
def cp_thing (σ : ST) (a1 : Int32) (a2 : Int32) : Option (Int32 × ST) :=
  bo (cp_in a1 (-99 : Int32) (99 : Int32)) (fun (r_2 : Int32) => (if r_2 = 0 then some ((-1 : Int32), σ) else bo (cp_in a2 (0 : Int32) (9 : Int32)) (fun (r_5 : Int32) => (if r_5 = 0 then some ((-1 : Int32), σ) else (if (gI σ 0 4) = (6 : Int32) then some ((-3 : Int32), σ) else st_ (aloc σ 5 [.int 0, .int 0] 2) (fun (σ_8 : ST) => bo (th_init σ_8 (szo σ) a1 a2) (fun (σ_11 : ST) => ck (gI σ 0 4) 6 (bo (asr σ_11 0 1 (gI σ 0 4) (some (szo σ)) 5) (fun (σ_12 : ST) => st_ (pI σ_12 0 4 ((gI σ_12 0 4) + (1 : Int32))) (fun (σ_15 : ST) => some (((gI σ_15 0 4) - (1 : Int32)), σ_15)))))))))))
abbrev rm_X0_thing : Room := rmc 2 34 1 2
set_option maxHeartbeats 4000000 in
set_option maxRecDepth 100000 in
theorem mt_X0_thing (l : Launch) (G : GT) (hal : G.2.2.2.2 = true) (σ : ST) (a1 : Int32) (a2 : Int32) {r : Int32} {u : ST} (h : cp_thing σ a1 a2 = some (r, u)) : CI l cp_ft G yX0_thing (ws_ yX0_thing cX0_thing 3 (some .int)) rm_X0_thing 1 2 [.ref (G.2.2.1 0), .int a1, .int a2] σ (r, u) := by
  refine m_enterI (by decide) rfl (lv := [(0, .ref (G.2.2.1 0)), (1, .int a1), (2, .int a2)]) rfl ?_
  intro p e s m args below meth c H locs ls Q X hret hP hl
  have hx := X.1.1
  have hb := X.1.2.1
  have hown := X.1.2.2.2.1
  have hts := X.1.2.2.2.2
  unfold cp_thing at h
  refine lv_iload_n hx hb dX0_thing_0 rfl (lv_at hl 1 rfl) ?_
  refine lv_bipush (v := (-99 : Int32)) hx hb dX0_thing_1 (by decide) ?_
  refine lv_bipush (v := (99 : Int32)) hx hb dX0_thing_3 (by decide) ?_
  obtain ⟨r_2, e_1, h⟩ := bo_ex h
  refine r_calli (r_runS (rest := []) X hP (mt_X0_in l G σ a1 (-99 : Int32) (99 : Int32) e_1) (va_cwS 3 hts (lw_S q396 q397 q110 q398) rfl rfl rfl cdX0_in ⟨Nat.le_of_ble_eq_true rfl, Nat.le_of_ble_eq_true rfl⟩) rfl hl.1 rfl (Nat.le_of_ble_eq_true rfl) dX0_thing_5 ⟨Nat.le_of_ble_eq_true rfl, Nat.le_of_ble_eq_true rfl⟩) hP (fun H locs hP => ?_)
  refine lv_if_eq (tgt := 21) hx hb dX0_thing_8 (by decide) (fun c_3 => ?_) (fun c_3 => ?_)
  · have h := it_t h c_3
    refine lv_iconst (v := (-1 : Int32)) hx hb dX0_thing_21 (by decide) ?_
    refine W.widen (k := 1) (n := 2) (Nat.le_of_ble_eq_true rfl) (Nat.le_of_ble_eq_true rfl) ?_
    exact hret _ _ _ _ _ _ dX0_thing_22 rfl (Option.some.inj h) hP
  · have h := it_f h c_3
    refine lv_iload_n hx hb dX0_thing_11 rfl (lv_at hl 2 rfl) ?_
    refine lv_iconst (v := (0 : Int32)) hx hb dX0_thing_12 (by decide) ?_
    refine lv_bipush (v := (9 : Int32)) hx hb dX0_thing_13 (by decide) ?_
    obtain ⟨r_5, e_4, h⟩ := bo_ex h
    refine r_calli (r_runS (rest := []) X hP (mt_X0_in l G σ a2 (0 : Int32) (9 : Int32) e_4) (va_cwS 3 hts (lw_S q396 q397 q110 q398) rfl rfl rfl cdX0_in ⟨Nat.le_of_ble_eq_true rfl, Nat.le_of_ble_eq_true rfl⟩) rfl hl.1 rfl (Nat.le_of_ble_eq_true rfl) dX0_thing_15 ⟨Nat.le_of_ble_eq_true rfl, Nat.le_of_ble_eq_true rfl⟩) hP (fun H locs hP => ?_)
    refine lv_if_ne (tgt := 23) hx hb dX0_thing_18 (by decide) (fun c_6 => ?_) (fun c_6 => ?_)
    · have h := it_f h c_6
      refine lv_aload_n hx hb dX0_thing_23 rfl (lv_at hl 0 rfl) ?_
      refine r_geti X hP 0 cp_c0 lk_0 4 (Nat.le_of_ble_eq_true rfl) q289 cp_f4 dX0_thing_24 ?_
      refine lv_bipush (v := (6 : Int32)) hx hb dX0_thing_27 (by decide) ?_
      refine lv_icmp_ne (tgt := 35) hx hb dX0_thing_29 (by decide) (fun c_7 => ?_) (fun c_7 => ?_)
      · have h := it_f h c_7
        refine lv_aload_n hx hb dX0_thing_35 rfl (lv_at hl 0 rfl) ?_
        refine r_geta X hP 0 cp_c0 lk_0 1 (Nat.le_of_ble_eq_true rfl) q282 cp_f1 dX0_thing_36 ?_
        refine lv_aload_n hx hb dX0_thing_39 rfl (lv_at hl 0 rfl) ?_
        refine r_geti X hP 0 cp_c0 lk_0 4 (Nat.le_of_ble_eq_true rfl) q289 cp_f4 dX0_thing_40 ?_
        refine r_new X hal hP 5 lk_5 tyX5 tyX5_ok (fs := [.int 0, .int 0]) rfl q167 q429 q115 (Nat.le_of_ble_eq_true rfl) (Nat.le_of_ble_eq_true rfl) dX0_thing_43 (fun σ_8 H e_9 hP => ?_)
        have h := st_k h e_9
        refine lv_dup hx hb dX0_thing_46 rfl ?_
        refine lv_iload_n hx hb dX0_thing_47 rfl (lv_at hl 1 rfl) ?_
        refine lv_iload_n hx hb dX0_thing_48 rfl (lv_at hl 2 rfl) ?_
        obtain ⟨σ_11, e_10, h⟩ := bo_ex h
        refine r_callv (r_runI (rest := [.ref (szo σ), .int (gI σ 0 4), .ref (G.2.2.1 2)]) X hP (mt_X5_init l G σ_8 (szo σ) a1 a2 e_10) (cwI 2 hts (lw_meth q432) rfl rfl rfl (hts _ q115) (hts _ q430) (hts _ q431) rfl cdX5_init ⟨Nat.le_of_ble_eq_true rfl, Nat.le_of_ble_eq_true rfl⟩) rfl hl.1 rfl (Nat.le_of_ble_eq_true rfl) dX0_thing_49 ⟨Nat.le_of_ble_eq_true rfl, Nat.le_of_ble_eq_true rfl⟩) hP (fun H locs hP => ?_)
        have h_14 := ck_in h
        have h := ck_k h
        obtain ⟨σ_12, e_13, h⟩ := bo_ex h
        refine r_aast (t := 1) (v := (some (szo σ))) X cp_w hP 2 cp_c2 lk_5 rfl e_13 h_14 dX0_thing_52 (fun H locs hP => ?_)
        refine lv_aload_n hx hb dX0_thing_53 rfl (lv_at hl 0 rfl) ?_
        refine lv_dup hx hb dX0_thing_54 rfl ?_
        refine r_geti X hP 0 cp_c0 lk_0 4 (Nat.le_of_ble_eq_true rfl) q289 cp_f4 dX0_thing_55 ?_
        refine lv_iconst (v := (1 : Int32)) hx hb dX0_thing_58 (by decide) ?_
        refine lv_iadd hx hb dX0_thing_59 ?_
        refine r_puti X cp_w hP 0 cp_c0 lk_0 4 (Nat.le_of_ble_eq_true rfl) q289 cp_f4 rfl (tyX0_ok 4 (by decide)) rfl rfl dX0_thing_60 (fun σ_15 H locs e_16 hP => ?_)
        have h := st_k h e_16
        refine lv_aload_n hx hb dX0_thing_63 rfl (lv_at hl 0 rfl) ?_
        refine r_geti X hP 0 cp_c0 lk_0 4 (Nat.le_of_ble_eq_true rfl) q289 cp_f4 dX0_thing_64 ?_
        refine lv_iconst (v := (1 : Int32)) hx hb dX0_thing_67 (by decide) ?_
        refine lv_isub hx hb dX0_thing_68 ?_
        refine W.widen (k := 1) (n := 2) (Nat.le_of_ble_eq_true rfl) (Nat.le_of_ble_eq_true rfl) ?_
        exact hret _ _ _ _ _ _ dX0_thing_69 rfl (Option.some.inj h) hP
      · have h := it_t h c_7
        refine lv_bipush (v := (-3 : Int32)) hx hb dX0_thing_32 (by decide) ?_
        refine W.widen (k := 1) (n := 2) (Nat.le_of_ble_eq_true rfl) (Nat.le_of_ble_eq_true rfl) ?_
        exact hret _ _ _ _ _ _ dX0_thing_34 rfl (Option.some.inj h) hP
    · have h := it_t h c_6
      refine lv_iconst (v := (-1 : Int32)) hx hb dX0_thing_21 (by decide) ?_
      refine W.widen (k := 1) (n := 2) (Nat.le_of_ble_eq_true rfl) (Nat.le_of_ble_eq_true rfl) ?_
      exact hret _ _ _ _ _ _ dX0_thing_22 rfl (Option.some.inj h) hP
def cp_isThing (σ : ST) (a1 : Int32) : Option Int32 :=
  bo (cp_in a1 (0 : Int32) ((gI σ 0 4) - (1 : Int32))) (fun (r_2 : Int32) => bz r_2 (some r_2))
abbrev rm_X0_isThing : Room := rmf 1 22
set_option maxHeartbeats 4000000 in
set_option maxRecDepth 100000 in
theorem mt_X0_isThing (l : Launch) (G : GT) (σ : ST) (a1 : Int32) {r : Int32} (h : cp_isThing σ a1 = some r) : CI l cp_ft G yX0_isThing (ws_ yX0_isThing cX0_isThing 2 (some .boolean)) rm_X0_isThing 0 0 [.ref (G.2.2.1 0), .int a1] σ (r, σ) := by
  refine m_enterI (by decide) rfl (lv := [(0, .ref (G.2.2.1 0)), (1, .int a1)]) rfl ?_
  intro p e s m args below meth c H locs ls Q X hret hP hl
  have hx := X.1.1
  have hb := X.1.2.1
  have hown := X.1.2.2.2.1
  have hts := X.1.2.2.2.2
  unfold cp_isThing at h
  refine lv_iload_n hx hb dX0_isThing_0 rfl (lv_at hl 1 rfl) ?_
  refine lv_iconst (v := (0 : Int32)) hx hb dX0_isThing_1 (by decide) ?_
  refine lv_aload_n hx hb dX0_isThing_2 rfl (lv_at hl 0 rfl) ?_
  refine r_geti X hP 0 cp_c0 lk_0 4 (Nat.le_of_ble_eq_true rfl) q289 cp_f4 dX0_isThing_3 ?_
  refine lv_iconst (v := (1 : Int32)) hx hb dX0_isThing_6 (by decide) ?_
  refine lv_isub hx hb dX0_isThing_7 ?_
  obtain ⟨r_2, e_1, h⟩ := bo_ex h
  refine r_calli (r_runS (rest := []) X hP (mt_X0_in l G σ a1 (0 : Int32) ((gI σ 0 4) - (1 : Int32)) e_1) (va_cwS 3 hts (lw_S q396 q397 q110 q398) rfl rfl rfl cdX0_in ⟨Nat.le_of_ble_eq_true rfl, Nat.le_of_ble_eq_true rfl⟩) rfl hl.1 rfl (Nat.le_of_ble_eq_true rfl) dX0_isThing_8 ⟨Nat.le_refl _, Nat.le_refl _⟩) hP (fun H locs hP => ?_)
  exact hret _ _ _ _ _ _ dX0_isThing_11 (bz_or h) (congrArg (fun z9 => (z9, σ)) (Option.some.inj (bz_k h))) hP
def cp_isCardSo (σ : ST) (a1 : Int32) (a2 : Int32) (a3 : Int32) : Option Int32 :=
  bo (cp_isThing σ a1) (fun (r_2 : Int32) => (if r_2 = 0 then some (0 : Int32) else bo (cp_in a2 (-9 : Int32) (9 : Int32)) (fun (r_5 : Int32) => (if r_5 = 0 then some (0 : Int32) else bo (cp_in a3 (0 : Int32) (1023 : Int32)) (fun (r_8 : Int32) => (if r_8 = 0 then some (0 : Int32) else some (1 : Int32)))))))
abbrev rm_X0_isCardSo : Room := rmf 2 43
set_option maxHeartbeats 4000000 in
set_option maxRecDepth 100000 in
theorem mt_X0_isCardSo (l : Launch) (G : GT) (σ : ST) (a1 : Int32) (a2 : Int32) (a3 : Int32) {r : Int32} (h : cp_isCardSo σ a1 a2 a3 = some r) : CI l cp_ft G yX0_isCardSo (ws_ yX0_isCardSo cX0_isCardSo 4 (some .boolean)) rm_X0_isCardSo 0 0 [.ref (G.2.2.1 0), .int a1, .int a2, .int a3] σ (r, σ) := by
  refine m_enterI (by decide) rfl (lv := [(0, .ref (G.2.2.1 0)), (1, .int a1), (2, .int a2), (3, .int a3)]) rfl ?_
  intro p e s m args below meth c H locs ls Q X hret hP hl
  have hx := X.1.1
  have hb := X.1.2.1
  have hown := X.1.2.2.2.1
  have hts := X.1.2.2.2.2
  unfold cp_isCardSo at h
  refine lv_aload_n hx hb dX0_isCardSo_0 rfl (lv_at hl 0 rfl) ?_
  refine lv_iload_n hx hb dX0_isCardSo_1 rfl (lv_at hl 1 rfl) ?_
  obtain ⟨r_2, e_1, h⟩ := bo_ex h
  refine r_calli (r_runV (rest := []) X hP 0 cp_c0 lk_0 (mt_X0_isThing l G σ a1 e_1) (cwV 1 hts (lw_V q452 q454 qs1 q110 q455) rfl rfl rfl ⟨rfl, cdX0_isThing⟩ ⟨Nat.le_of_ble_eq_true rfl, Nat.le_of_ble_eq_true rfl⟩) rfl hl.1 rfl (Nat.le_of_ble_eq_true rfl) dX0_isCardSo_2 ⟨Nat.le_refl _, Nat.le_refl _⟩) hP (fun H locs hP => ?_)
  refine lv_if_eq (tgt := 34) hx hb dX0_isCardSo_5 (by decide) (fun c_3 => ?_) (fun c_3 => ?_)
  · have h := it_t h c_3
    refine lv_iconst (v := (0 : Int32)) hx hb dX0_isCardSo_34 (by decide) ?_
    exact hret _ _ _ _ _ _ dX0_isCardSo_35 rfl (congrArg (fun z9 => (z9, σ)) (Option.some.inj h)) hP
  · have h := it_f h c_3
    refine lv_iload_n hx hb dX0_isCardSo_8 rfl (lv_at hl 2 rfl) ?_
    refine lv_bipush (v := (-9 : Int32)) hx hb dX0_isCardSo_9 (by decide) ?_
    refine lv_bipush (v := (9 : Int32)) hx hb dX0_isCardSo_11 (by decide) ?_
    obtain ⟨r_5, e_4, h⟩ := bo_ex h
    refine r_calli (r_runS (rest := []) X hP (mt_X0_in l G σ a2 (-9 : Int32) (9 : Int32) e_4) (va_cwS 3 hts (lw_S q396 q397 q110 q398) rfl rfl rfl cdX0_in ⟨Nat.le_of_ble_eq_true rfl, Nat.le_of_ble_eq_true rfl⟩) rfl hl.1 rfl (Nat.le_of_ble_eq_true rfl) dX0_isCardSo_13 ⟨Nat.le_refl _, Nat.le_refl _⟩) hP (fun H locs hP => ?_)
    refine lv_if_eq (tgt := 34) hx hb dX0_isCardSo_16 (by decide) (fun c_6 => ?_) (fun c_6 => ?_)
    · have h := it_t h c_6
      refine lv_iconst (v := (0 : Int32)) hx hb dX0_isCardSo_34 (by decide) ?_
      exact hret _ _ _ _ _ _ dX0_isCardSo_35 rfl (congrArg (fun z9 => (z9, σ)) (Option.some.inj h)) hP
    · have h := it_f h c_6
      refine lv_iload_n hx hb dX0_isCardSo_19 rfl (lv_at hl 3 rfl) ?_
      refine lv_iconst (v := (0 : Int32)) hx hb dX0_isCardSo_20 (by decide) ?_
      refine lv_sipush (v := (1023 : Int32)) hx hb dX0_isCardSo_21 (by decide) ?_
      obtain ⟨r_8, e_7, h⟩ := bo_ex h
      refine r_calli (r_runS (rest := []) X hP (mt_X0_in l G σ a3 (0 : Int32) (1023 : Int32) e_7) (va_cwS 3 hts (lw_S q396 q397 q110 q398) rfl rfl rfl cdX0_in ⟨Nat.le_of_ble_eq_true rfl, Nat.le_of_ble_eq_true rfl⟩) rfl hl.1 rfl (Nat.le_of_ble_eq_true rfl) dX0_isCardSo_24 ⟨Nat.le_refl _, Nat.le_refl _⟩) hP (fun H locs hP => ?_)
      refine lv_if_eq (tgt := 34) hx hb dX0_isCardSo_27 (by decide) (fun c_9 => ?_) (fun c_9 => ?_)
      · have h := it_t h c_9
        refine lv_iconst (v := (0 : Int32)) hx hb dX0_isCardSo_34 (by decide) ?_
        exact hret _ _ _ _ _ _ dX0_isCardSo_35 rfl (congrArg (fun z9 => (z9, σ)) (Option.some.inj h)) hP
      · have h := it_f h c_9
        refine lv_iconst (v := (1 : Int32)) hx hb dX0_isCardSo_30 (by decide) ?_
        refine lv_goto (tgt := 35) hx hb dX0_isCardSo_31 (by decide) ?_
        exact hret _ _ _ _ _ _ dX0_isCardSo_35 rfl (congrArg (fun z9 => (z9, σ)) (Option.some.inj h)) hP
def cd_init (σ : ST) (t0 : Nat) (a1 : Int32) (a2 : Int32) (a3 : Int32) : Option ST :=
  bo (ppv σ (some t0) 6 0 (.int a1)) (fun (σ_2 : ST) => bo (ppv σ_2 (some t0) 6 1 (.int a2)) (fun (σ_4 : ST) => bo (ppv σ_4 (some t0) 6 2 (.int a3)) (fun (σ_6 : ST) => some σ_6)))
abbrev rm_X6_init : Room := rmf 1 12
set_option maxHeartbeats 4000000 in
set_option maxRecDepth 100000 in
theorem mt_X6_init (l : Launch) (G : GT) (σ : ST) (t0 : Nat) (a1 : Int32) (a2 : Int32) (a3 : Int32) {u : ST} (h : cd_init σ t0 a1 a2 a3 = some u) : CV l cp_ft G yX6_init (ws_ yX6_init cX6_init 4 none) rm_X6_init 0 0 [.ref t0, .int a1, .int a2, .int a3] σ u := by
  refine m_enterV (by decide) rfl (lv := [(0, .ref t0), (1, .int a1), (2, .int a2), (3, .int a3)]) rfl ?_
  intro p e s m args below meth c H locs ls Q X hnm hret hP hl
  have hx := X.1.1
  have hb := X.1.2.1
  have hown := X.1.2.2.2.1
  have hts := X.1.2.2.2.2
  unfold cd_init at h
  refine lv_aload_n hx hb dX6_init_0 rfl (lv_at hl 0 rfl) ?_
  refine W.objInit hx hb hown (hts _ q464) (hts _ q163) (hts _ q164) rfl (by rw [X.1.2.2.1]; exact hl.1) rfl dX6_init_1 (Nat.le_of_ble_eq_true rfl) (Nat.le_of_ble_eq_true rfl) ?_
  refine W.eq (g2 := F0 m 4 ls []) rfl ?_
  refine lv_aload_n hx hb dX6_init_4 rfl (lv_at hl 0 rfl) ?_
  refine lv_iload_n hx hb dX6_init_5 rfl (lv_at hl 1 rfl) ?_
  obtain ⟨σ_2, e_1, h⟩ := bo_ex h
  refine r_ppvF (r := (some t0)) X hP lk_6 0 (Nat.le_of_ble_eq_true rfl) e_1 q465 rfl hnm rfl (tyX6_ok 0 (by decide)) rfl rfl dX6_init_6 (fun H locs hP => ?_)
  refine lv_aload_n hx hb dX6_init_9 rfl (lv_at hl 0 rfl) ?_
  refine lv_iload_n hx hb dX6_init_10 rfl (lv_at hl 2 rfl) ?_
  obtain ⟨σ_4, e_3, h⟩ := bo_ex h
  refine r_ppvF (r := (some t0)) X hP lk_6 1 (Nat.le_of_ble_eq_true rfl) e_3 q468 rfl hnm rfl (tyX6_ok 1 (by decide)) rfl rfl dX6_init_11 (fun H locs hP => ?_)
  refine lv_aload_n hx hb dX6_init_14 rfl (lv_at hl 0 rfl) ?_
  refine lv_iload_n hx hb dX6_init_15 rfl (lv_at hl 3 rfl) ?_
  obtain ⟨σ_6, e_5, h⟩ := bo_ex h
  refine r_ppvF (r := (some t0)) X hP lk_6 2 (Nat.le_of_ble_eq_true rfl) e_5 q471 rfl hnm rfl (tyX6_ok 2 (by decide)) rfl rfl dX6_init_16 (fun H locs hP => ?_)
  exact hret _ _ _ _ _ dX6_init_19 (Option.some.inj h) hP
def cp_addCard (σ : ST) (a1 : Int32) (a2 : Int32) (a3 : Int32) : Option (Int32 × ST) :=
  st_ (aloc σ 6 [.int 0, .int 0, .int 0] 3) (fun (σ_1 : ST) => bo (cd_init σ_1 (szo σ) a1 a2 a3) (fun (σ_4 : ST) => ck (gI σ 0 5) 20 (bo (asr σ_4 0 2 (gI σ 0 5) (some (szo σ)) 6) (fun (σ_5 : ST) => st_ (pI σ_5 0 5 ((gI σ_5 0 5) + (1 : Int32))) (fun (σ_8 : ST) => some (((gI σ_8 0 5) - (1 : Int32)), σ_8))))))
abbrev rm_X0_addCard : Room := rmc 2 35 1 3
set_option maxHeartbeats 4000000 in
set_option maxRecDepth 100000 in
theorem mt_X0_addCard (l : Launch) (G : GT) (hal : G.2.2.2.2 = true) (σ : ST) (a1 : Int32) (a2 : Int32) (a3 : Int32) {r : Int32} {u : ST} (h : cp_addCard σ a1 a2 a3 = some (r, u)) : CI l cp_ft G yX0_addCard (ws_ yX0_addCard cX0_addCard 4 (some .int)) rm_X0_addCard 1 3 [.ref (G.2.2.1 0), .int a1, .int a2, .int a3] σ (r, u) := by
  refine m_enterI (by decide) rfl (lv := [(0, .ref (G.2.2.1 0)), (1, .int a1), (2, .int a2), (3, .int a3)]) rfl ?_
  intro p e s m args below meth c H locs ls Q X hret hP hl
  have hx := X.1.1
  have hb := X.1.2.1
  have hown := X.1.2.2.2.1
  have hts := X.1.2.2.2.2
  unfold cp_addCard at h
  refine lv_aload_n hx hb dX0_addCard_0 rfl (lv_at hl 0 rfl) ?_
  refine r_geta X hP 0 cp_c0 lk_0 2 (Nat.le_of_ble_eq_true rfl) q284 cp_f2 dX0_addCard_1 ?_
  refine lv_aload_n hx hb dX0_addCard_4 rfl (lv_at hl 0 rfl) ?_
  refine r_geti X hP 0 cp_c0 lk_0 5 (Nat.le_of_ble_eq_true rfl) q291 cp_f5 dX0_addCard_5 ?_
  refine r_new X hal hP 6 lk_6 tyX6 tyX6_ok (fs := [.int 0, .int 0, .int 0]) rfl q169 q460 q116 (Nat.le_of_ble_eq_true rfl) (Nat.le_of_ble_eq_true rfl) dX0_addCard_8 (fun σ_1 H e_2 hP => ?_)
  have h := st_k h e_2
  refine lv_dup hx hb dX0_addCard_11 rfl ?_
  refine lv_iload_n hx hb dX0_addCard_12 rfl (lv_at hl 1 rfl) ?_
  refine lv_iload_n hx hb dX0_addCard_13 rfl (lv_at hl 2 rfl) ?_
  refine lv_iload_n hx hb dX0_addCard_14 rfl (lv_at hl 3 rfl) ?_
  obtain ⟨σ_4, e_3, h⟩ := bo_ex h
  refine r_callv (r_runI (rest := [.ref (szo σ), .int (gI σ 0 5), .ref (G.2.2.1 3)]) X hP (mt_X6_init l G σ_1 (szo σ) a1 a2 a3 e_3) (cwI 3 hts (lw_meth q463) rfl rfl rfl (hts _ q116) (hts _ q461) (hts _ q462) rfl cdX6_init ⟨Nat.le_of_ble_eq_true rfl, Nat.le_of_ble_eq_true rfl⟩) rfl hl.1 rfl (Nat.le_of_ble_eq_true rfl) dX0_addCard_15 ⟨Nat.le_of_ble_eq_true rfl, Nat.le_of_ble_eq_true rfl⟩) hP (fun H locs hP => ?_)
  have h_7 := ck_in h
  have h := ck_k h
  obtain ⟨σ_5, e_6, h⟩ := bo_ex h
  refine r_aast (t := 2) (v := (some (szo σ))) X cp_w hP 3 cp_c3 lk_6 rfl e_6 h_7 dX0_addCard_18 (fun H locs hP => ?_)
  refine lv_aload_n hx hb dX0_addCard_19 rfl (lv_at hl 0 rfl) ?_
  refine lv_dup hx hb dX0_addCard_20 rfl ?_
  refine r_geti X hP 0 cp_c0 lk_0 5 (Nat.le_of_ble_eq_true rfl) q291 cp_f5 dX0_addCard_21 ?_
  refine lv_iconst (v := (1 : Int32)) hx hb dX0_addCard_24 (by decide) ?_
  refine lv_iadd hx hb dX0_addCard_25 ?_
  refine r_puti X cp_w hP 0 cp_c0 lk_0 5 (Nat.le_of_ble_eq_true rfl) q291 cp_f5 rfl (tyX0_ok 5 (by decide)) rfl rfl dX0_addCard_26 (fun σ_8 H locs e_9 hP => ?_)
  have h := st_k h e_9
  refine lv_aload_n hx hb dX0_addCard_29 rfl (lv_at hl 0 rfl) ?_
  refine r_geti X hP 0 cp_c0 lk_0 5 (Nat.le_of_ble_eq_true rfl) q291 cp_f5 dX0_addCard_30 ?_
  refine lv_iconst (v := (1 : Int32)) hx hb dX0_addCard_33 (by decide) ?_
  refine lv_isub hx hb dX0_addCard_34 ?_
  refine W.widen (k := 1) (n := 3) (Nat.le_of_ble_eq_true rfl) (Nat.le_of_ble_eq_true rfl) ?_
  exact hret _ _ _ _ _ _ dX0_addCard_35 rfl (Option.some.inj h) hP
def cp_card (σ : ST) (a1 : Int32) (a2 : Int32) (a3 : Int32) : Option (Int32 × ST) :=
  bo (cp_isCardSo σ a1 a2 a3) (fun (r_2 : Int32) => (if r_2 = 0 then some ((-1 : Int32), σ) else (if (gI σ 0 5) = (20 : Int32) then some ((-3 : Int32), σ) else bo2 (cp_addCard σ a1 a2 a3) (fun (r_6 : Int32) (σ_7 : ST) => some (r_6, σ_7)))))
abbrev rm_X0_card : Room := rmc 3 66 1 3
set_option maxHeartbeats 4000000 in
set_option maxRecDepth 100000 in
theorem mt_X0_card (l : Launch) (G : GT) (hal : G.2.2.2.2 = true) (σ : ST) (a1 : Int32) (a2 : Int32) (a3 : Int32) {r : Int32} {u : ST} (h : cp_card σ a1 a2 a3 = some (r, u)) : CI l cp_ft G yX0_card (ws_ yX0_card cX0_card 4 (some .int)) rm_X0_card 1 3 [.ref (G.2.2.1 0), .int a1, .int a2, .int a3] σ (r, u) := by
  refine m_enterI (by decide) rfl (lv := [(0, .ref (G.2.2.1 0)), (1, .int a1), (2, .int a2), (3, .int a3)]) rfl ?_
  intro p e s m args below meth c H locs ls Q X hret hP hl
  have hx := X.1.1
  have hb := X.1.2.1
  have hown := X.1.2.2.2.1
  have hts := X.1.2.2.2.2
  unfold cp_card at h
  refine lv_aload_n hx hb dX0_card_0 rfl (lv_at hl 0 rfl) ?_
  refine lv_iload_n hx hb dX0_card_1 rfl (lv_at hl 1 rfl) ?_
  refine lv_iload_n hx hb dX0_card_2 rfl (lv_at hl 2 rfl) ?_
  refine lv_iload_n hx hb dX0_card_3 rfl (lv_at hl 3 rfl) ?_
  obtain ⟨r_2, e_1, h⟩ := bo_ex h
  refine r_calli (r_runV (rest := []) X hP 0 cp_c0 lk_0 (mt_X0_isCardSo l G σ a1 a2 a3 e_1) (cwV 3 hts (lw_V q448 q450 qs0 q110 q451) rfl rfl rfl ⟨rfl, cdX0_isCardSo⟩ ⟨Nat.le_of_ble_eq_true rfl, Nat.le_of_ble_eq_true rfl⟩) rfl hl.1 rfl (Nat.le_of_ble_eq_true rfl) dX0_card_4 ⟨Nat.le_of_ble_eq_true rfl, Nat.le_of_ble_eq_true rfl⟩) hP (fun H locs hP => ?_)
  refine lv_if_ne (tgt := 12) hx hb dX0_card_7 (by decide) (fun c_3 => ?_) (fun c_3 => ?_)
  · have h := it_f h c_3
    refine lv_aload_n hx hb dX0_card_12 rfl (lv_at hl 0 rfl) ?_
    refine r_geti X hP 0 cp_c0 lk_0 5 (Nat.le_of_ble_eq_true rfl) q291 cp_f5 dX0_card_13 ?_
    refine lv_bipush (v := (20 : Int32)) hx hb dX0_card_16 (by decide) ?_
    refine lv_icmp_ne (tgt := 26) hx hb dX0_card_18 (by decide) (fun c_4 => ?_) (fun c_4 => ?_)
    · have h := it_f h c_4
      refine lv_aload_n hx hb dX0_card_26 rfl (lv_at hl 0 rfl) ?_
      refine lv_iload_n hx hb dX0_card_27 rfl (lv_at hl 1 rfl) ?_
      refine lv_iload_n hx hb dX0_card_28 rfl (lv_at hl 2 rfl) ?_
      refine lv_iload_n hx hb dX0_card_29 rfl (lv_at hl 3 rfl) ?_
      obtain ⟨r_6, σ_7, e_5, h⟩ := bo2_ex h
      refine r_calliM (r_runV (rest := []) X hP 0 cp_c0 lk_0 (mt_X0_addCard l G hal σ a1 a2 a3 e_5) (cwV 3 hts (lw_V q456 q458 qs2 q110 q459) rfl rfl rfl ⟨rfl, cdX0_addCard⟩ ⟨Nat.le_of_ble_eq_true rfl, Nat.le_of_ble_eq_true rfl⟩) rfl hl.1 rfl (Nat.le_of_ble_eq_true rfl) dX0_card_30 ⟨Nat.le_of_ble_eq_true rfl, Nat.le_of_ble_eq_true rfl⟩) hP (fun H locs hP => ?_)
      refine W.widen (k := 1) (n := 3) (Nat.le_of_ble_eq_true rfl) (Nat.le_of_ble_eq_true rfl) ?_
      exact hret _ _ _ _ _ _ dX0_card_33 rfl (Option.some.inj h) hP
    · have h := it_t h c_4
      refine lv_bipush (v := (-3 : Int32)) hx hb dX0_card_21 (by decide) ?_
      refine lv_goto (tgt := 33) hx hb dX0_card_23 (by decide) ?_
      refine W.widen (k := 1) (n := 3) (Nat.le_of_ble_eq_true rfl) (Nat.le_of_ble_eq_true rfl) ?_
      exact hret _ _ _ _ _ _ dX0_card_33 rfl (Option.some.inj h) hP
  · have h := it_t h c_3
    refine lv_iconst (v := (-1 : Int32)) hx hb dX0_card_10 (by decide) ?_
    refine W.widen (k := 1) (n := 3) (Nat.le_of_ble_eq_true rfl) (Nat.le_of_ble_eq_true rfl) ?_
    exact hret _ _ _ _ _ _ dX0_card_11 rfl (Option.some.inj h) hP
def cp_isShelf (a0 : Int32) : Option Int32 :=
  bo (cp_in a0 (0 : Int32) (5 : Int32)) (fun (r_2 : Int32) => bz r_2 (some r_2))
abbrev rm_X0_isShelf : Room := rmf 1 22
set_option maxHeartbeats 4000000 in
set_option maxRecDepth 100000 in
theorem mt_X0_isShelf (l : Launch) (G : GT) (σ : ST) (a0 : Int32) {r : Int32} (h : cp_isShelf a0 = some r) : CI l cp_ft G yX0_isShelf (ws_ yX0_isShelf cX0_isShelf 1 (some .boolean)) rm_X0_isShelf 0 0 [.int a0] σ (r, σ) := by
  refine m_enterI (by decide) rfl (lv := [(0, .int a0)]) rfl ?_
  intro p e s m args below meth c H locs ls Q X hret hP hl
  have hx := X.1.1
  have hb := X.1.2.1
  have hown := X.1.2.2.2.1
  have hts := X.1.2.2.2.2
  unfold cp_isShelf at h
  refine lv_iload_n hx hb dX0_isShelf_0 rfl (lv_at hl 0 rfl) ?_
  refine lv_iconst (v := (0 : Int32)) hx hb dX0_isShelf_1 (by decide) ?_
  refine lv_iconst (v := (5 : Int32)) hx hb dX0_isShelf_2 (by decide) ?_
  obtain ⟨r_2, e_1, h⟩ := bo_ex h
  refine r_calli (r_runS (rest := []) X hP (mt_X0_in l G σ a0 (0 : Int32) (5 : Int32) e_1) (va_cwS 3 hts (lw_S q396 q397 q110 q398) rfl rfl rfl cdX0_in ⟨Nat.le_of_ble_eq_true rfl, Nat.le_of_ble_eq_true rfl⟩) rfl hl.1 rfl (Nat.le_of_ble_eq_true rfl) dX0_isShelf_3 ⟨Nat.le_refl _, Nat.le_refl _⟩) hP (fun H locs hP => ?_)
  exact hret _ _ _ _ _ _ dX0_isShelf_6 (bz_or h) (congrArg (fun z9 => (z9, σ)) (Option.some.inj (bz_k h))) hP
def cp_set (σ : ST) (a1 : Int32) (a2 : Int32) : Option (Int32 × ST) :=
  (if a1 = (0 : Int32) then bo (cp_in a2 (0 : Int32) (5 : Int32)) (fun (r_3 : Int32) => (if r_3 = 0 then some ((-1 : Int32), σ) else st_ (pI σ 0 6 a2) (fun (σ_5 : ST) => some ((gI σ 0 6), σ_5)))) else (if a1 = (1 : Int32) then bo (cp_in a2 (0 : Int32) (1 : Int32)) (fun (r_9 : Int32) => (if r_9 = 0 then some ((-1 : Int32), σ) else st_ (pI σ 0 7 a2) (fun (σ_11 : ST) => some ((gI σ 0 7), σ_11)))) else (if a1 = (2 : Int32) then bo (cp_in a2 (1 : Int32) (9 : Int32)) (fun (r_15 : Int32) => (if r_15 = 0 then some ((-1 : Int32), σ) else st_ (pI σ 0 8 a2) (fun (σ_17 : ST) => some ((gI σ 0 8), σ_17)))) else some ((-1 : Int32), σ))))
abbrev rm_X0_set : Room := rmf 1 22
set_option maxHeartbeats 4000000 in
set_option maxRecDepth 100000 in
theorem mt_X0_set (l : Launch) (G : GT) (σ : ST) (a1 : Int32) (a2 : Int32) {r : Int32} {u : ST} (h : cp_set σ a1 a2 = some (r, u)) : CI l cp_ft G yX0_set (ws_ yX0_set cX0_set 4 (some .int)) rm_X0_set 0 0 [.ref (G.2.2.1 0), .int a1, .int a2] σ (r, u) := by
  refine m_enterI (by decide) rfl (lv := [(0, .ref (G.2.2.1 0)), (1, .int a1), (2, .int a2)]) rfl ?_
  intro p e s m args below meth c H locs ls Q X hret hP hl
  have hx := X.1.1
  have hb := X.1.2.1
  have hown := X.1.2.2.2.1
  have hts := X.1.2.2.2.2
  unfold cp_set at h
  refine lv_iload_n hx hb dX0_set_0 rfl (lv_at hl 1 rfl) ?_
  by_cases c_1 : a1 = (0 : Int32)
  · have h := it_t h c_1
    refine lv_tableIn (tgt := 28) hx hb dX0_set_1 (by rw [c_1]; decide) (by rw [c_1]; decide) (by rw [c_1]; rfl) (by decide) ?_
    refine lv_iload_n hx hb dX0_set_28 rfl (lv_at hl 2 rfl) ?_
    refine lv_iconst (v := (0 : Int32)) hx hb dX0_set_29 (by decide) ?_
    refine lv_iconst (v := (5 : Int32)) hx hb dX0_set_30 (by decide) ?_
    obtain ⟨r_3, e_2, h⟩ := bo_ex h
    refine r_calli (r_runS (rest := []) X hP (mt_X0_in l G σ a2 (0 : Int32) (5 : Int32) e_2) (va_cwS 3 hts (lw_S q396 q397 q110 q398) rfl rfl rfl cdX0_in ⟨Nat.le_of_ble_eq_true rfl, Nat.le_of_ble_eq_true rfl⟩) rfl hl.1 rfl (Nat.le_of_ble_eq_true rfl) dX0_set_31 ⟨Nat.le_refl _, Nat.le_refl _⟩) hP (fun H locs hP => ?_)
    refine lv_if_ne (tgt := 39) hx hb dX0_set_34 (by decide) (fun c_4 => ?_) (fun c_4 => ?_)
    · have h := it_f h c_4
      refine lv_aload_n hx hb dX0_set_39 rfl (lv_at hl 0 rfl) ?_
      refine r_geti X hP 0 cp_c0 lk_0 6 (Nat.le_of_ble_eq_true rfl) q292 cp_f6 dX0_set_40 ?_
      refine lv_istore_n (lv' := [(3, .int (gI σ 0 6)), (0, .ref (G.2.2.1 0)), (1, .int a1), (2, .int a2)]) hx hb dX0_set_43 rfl hl (by decide) rfl (fun ls hl => ?_)
      refine lv_aload_n hx hb dX0_set_44 rfl (lv_at hl 1 rfl) ?_
      refine lv_iload_n hx hb dX0_set_45 rfl (lv_at hl 3 rfl) ?_
      refine r_puti X cp_w hP 0 cp_c0 lk_0 6 (Nat.le_of_ble_eq_true rfl) q292 cp_f6 rfl (tyX0_ok 6 (by decide)) rfl rfl dX0_set_46 (fun σ_5 H locs e_6 hP => ?_)
      have h := st_k h e_6
      refine lv_iload_n hx hb dX0_set_49 rfl (lv_at hl 0 rfl) ?_
      exact hret _ _ _ _ _ _ dX0_set_50 rfl (Option.some.inj h) hP
    · have h := it_t h c_4
      refine lv_iconst (v := (-1 : Int32)) hx hb dX0_set_37 (by decide) ?_
      exact hret _ _ _ _ _ _ dX0_set_38 rfl (Option.some.inj h) hP
  · have h := it_f h c_1
    by_cases c_7 : a1 = (1 : Int32)
    · have h := it_t h c_7
      refine lv_tableIn (tgt := 51) hx hb dX0_set_1 (by rw [c_7]; decide) (by rw [c_7]; decide) (by rw [c_7]; rfl) (by decide) ?_
      refine lv_iload_n hx hb dX0_set_51 rfl (lv_at hl 2 rfl) ?_
      refine lv_iconst (v := (0 : Int32)) hx hb dX0_set_52 (by decide) ?_
      refine lv_iconst (v := (1 : Int32)) hx hb dX0_set_53 (by decide) ?_
      obtain ⟨r_9, e_8, h⟩ := bo_ex h
      refine r_calli (r_runS (rest := []) X hP (mt_X0_in l G σ a2 (0 : Int32) (1 : Int32) e_8) (va_cwS 3 hts (lw_S q396 q397 q110 q398) rfl rfl rfl cdX0_in ⟨Nat.le_of_ble_eq_true rfl, Nat.le_of_ble_eq_true rfl⟩) rfl hl.1 rfl (Nat.le_of_ble_eq_true rfl) dX0_set_54 ⟨Nat.le_refl _, Nat.le_refl _⟩) hP (fun H locs hP => ?_)
      refine lv_if_ne (tgt := 62) hx hb dX0_set_57 (by decide) (fun c_10 => ?_) (fun c_10 => ?_)
      · have h := it_f h c_10
        refine lv_aload_n hx hb dX0_set_62 rfl (lv_at hl 0 rfl) ?_
        refine r_geti X hP 0 cp_c0 lk_0 7 (Nat.le_of_ble_eq_true rfl) q293 cp_f7 dX0_set_63 ?_
        refine lv_istore_n (lv' := [(3, .int (gI σ 0 7)), (0, .ref (G.2.2.1 0)), (1, .int a1), (2, .int a2)]) hx hb dX0_set_66 rfl hl (by decide) rfl (fun ls hl => ?_)
        refine lv_aload_n hx hb dX0_set_67 rfl (lv_at hl 1 rfl) ?_
        refine lv_iload_n hx hb dX0_set_68 rfl (lv_at hl 3 rfl) ?_
        refine r_puti X cp_w hP 0 cp_c0 lk_0 7 (Nat.le_of_ble_eq_true rfl) q293 cp_f7 rfl (tyX0_ok 7 (by decide)) rfl rfl dX0_set_69 (fun σ_11 H locs e_12 hP => ?_)
        have h := st_k h e_12
        refine lv_iload_n hx hb dX0_set_72 rfl (lv_at hl 0 rfl) ?_
        exact hret _ _ _ _ _ _ dX0_set_73 rfl (Option.some.inj h) hP
      · have h := it_t h c_10
        refine lv_iconst (v := (-1 : Int32)) hx hb dX0_set_60 (by decide) ?_
        exact hret _ _ _ _ _ _ dX0_set_61 rfl (Option.some.inj h) hP
    · have h := it_f h c_7
      by_cases c_13 : a1 = (2 : Int32)
      · have h := it_t h c_13
        refine lv_tableIn (tgt := 74) hx hb dX0_set_1 (by rw [c_13]; decide) (by rw [c_13]; decide) (by rw [c_13]; rfl) (by decide) ?_
        refine lv_iload_n hx hb dX0_set_74 rfl (lv_at hl 2 rfl) ?_
        refine lv_iconst (v := (1 : Int32)) hx hb dX0_set_75 (by decide) ?_
        refine lv_bipush (v := (9 : Int32)) hx hb dX0_set_76 (by decide) ?_
        obtain ⟨r_15, e_14, h⟩ := bo_ex h
        refine r_calli (r_runS (rest := []) X hP (mt_X0_in l G σ a2 (1 : Int32) (9 : Int32) e_14) (va_cwS 3 hts (lw_S q396 q397 q110 q398) rfl rfl rfl cdX0_in ⟨Nat.le_of_ble_eq_true rfl, Nat.le_of_ble_eq_true rfl⟩) rfl hl.1 rfl (Nat.le_of_ble_eq_true rfl) dX0_set_78 ⟨Nat.le_refl _, Nat.le_refl _⟩) hP (fun H locs hP => ?_)
        refine lv_if_ne (tgt := 86) hx hb dX0_set_81 (by decide) (fun c_16 => ?_) (fun c_16 => ?_)
        · have h := it_f h c_16
          refine lv_aload_n hx hb dX0_set_86 rfl (lv_at hl 0 rfl) ?_
          refine r_geti X hP 0 cp_c0 lk_0 8 (Nat.le_of_ble_eq_true rfl) q295 cp_f8 dX0_set_87 ?_
          refine lv_istore_n (lv' := [(3, .int (gI σ 0 8)), (0, .ref (G.2.2.1 0)), (1, .int a1), (2, .int a2)]) hx hb dX0_set_90 rfl hl (by decide) rfl (fun ls hl => ?_)
          refine lv_aload_n hx hb dX0_set_91 rfl (lv_at hl 1 rfl) ?_
          refine lv_iload_n hx hb dX0_set_92 rfl (lv_at hl 3 rfl) ?_
          refine r_puti X cp_w hP 0 cp_c0 lk_0 8 (Nat.le_of_ble_eq_true rfl) q295 cp_f8 rfl (tyX0_ok 8 (by decide)) rfl rfl dX0_set_93 (fun σ_17 H locs e_18 hP => ?_)
          have h := st_k h e_18
          refine lv_iload_n hx hb dX0_set_96 rfl (lv_at hl 0 rfl) ?_
          exact hret _ _ _ _ _ _ dX0_set_97 rfl (Option.some.inj h) hP
        · have h := it_t h c_16
          refine lv_iconst (v := (-1 : Int32)) hx hb dX0_set_84 (by decide) ?_
          exact hret _ _ _ _ _ _ dX0_set_85 rfl (Option.some.inj h) hP
      · have h := it_f h c_13
        refine lv_tableOut (tgt := 98) hx hb dX0_set_1 (by have n0 := lv_neT c_1 (a := 0) (by decide); have n1 := lv_neT c_7 (a := 1) (by decide); have n2 := lv_neT c_13 (a := 2) (by decide); omega) (by decide) ?_
        refine lv_iconst (v := (-1 : Int32)) hx hb dX0_set_98 (by decide) ?_
        exact hret _ _ _ _ _ _ dX0_set_99 rfl (Option.some.inj h) hP
def cp_isPerson (σ : ST) (a1 : Int32) : Option Int32 :=
  bo (cp_in a1 (0 : Int32) ((gI σ 0 3) - (1 : Int32))) (fun (r_2 : Int32) => bz r_2 (some r_2))
abbrev rm_X0_isPerson : Room := rmf 1 22
set_option maxHeartbeats 4000000 in
set_option maxRecDepth 100000 in
theorem mt_X0_isPerson (l : Launch) (G : GT) (σ : ST) (a1 : Int32) {r : Int32} (h : cp_isPerson σ a1 = some r) : CI l cp_ft G yX0_isPerson (ws_ yX0_isPerson cX0_isPerson 2 (some .boolean)) rm_X0_isPerson 0 0 [.ref (G.2.2.1 0), .int a1] σ (r, σ) := by
  refine m_enterI (by decide) rfl (lv := [(0, .ref (G.2.2.1 0)), (1, .int a1)]) rfl ?_
  intro p e s m args below meth c H locs ls Q X hret hP hl
  have hx := X.1.1
  have hb := X.1.2.1
  have hown := X.1.2.2.2.1
  have hts := X.1.2.2.2.2
  unfold cp_isPerson at h
  refine lv_iload_n hx hb dX0_isPerson_0 rfl (lv_at hl 1 rfl) ?_
  refine lv_iconst (v := (0 : Int32)) hx hb dX0_isPerson_1 (by decide) ?_
  refine lv_aload_n hx hb dX0_isPerson_2 rfl (lv_at hl 0 rfl) ?_
  refine r_geti X hP 0 cp_c0 lk_0 3 (Nat.le_of_ble_eq_true rfl) q286 cp_f3 dX0_isPerson_3 ?_
  refine lv_iconst (v := (1 : Int32)) hx hb dX0_isPerson_6 (by decide) ?_
  refine lv_isub hx hb dX0_isPerson_7 ?_
  obtain ⟨r_2, e_1, h⟩ := bo_ex h
  refine r_calli (r_runS (rest := []) X hP (mt_X0_in l G σ a1 (0 : Int32) ((gI σ 0 3) - (1 : Int32)) e_1) (va_cwS 3 hts (lw_S q396 q397 q110 q398) rfl rfl rfl cdX0_in ⟨Nat.le_of_ble_eq_true rfl, Nat.le_of_ble_eq_true rfl⟩) rfl hl.1 rfl (Nat.le_of_ble_eq_true rfl) dX0_isPerson_8 ⟨Nat.le_refl _, Nat.le_refl _⟩) hP (fun H locs hP => ?_)
  exact hret _ _ _ _ _ _ dX0_isPerson_11 (bz_or h) (congrArg (fun z9 => (z9, σ)) (Option.some.inj (bz_k h))) hP
def cp_of (σ : ST) (a1 : Int32) (a2 : Int32) : Option Int32 :=
  bo (cp_in a2 (0 : Int32) (3 : Int32)) (fun (r_2 : Int32) => (if r_2 = 0 then bo (cp_in a2 (10 : Int32) (11 : Int32)) (fun (r_5 : Int32) => (if r_5 = 0 then bo (cp_in a2 (20 : Int32) (22 : Int32)) (fun (r_8 : Int32) => (if r_8 = 0 then some (-2000000000 : Int32) else bo (cp_in a1 (0 : Int32) ((gI σ 0 5) - (1 : Int32))) (fun (r_11 : Int32) => (if r_11 = 0 then some (-2000000000 : Int32) else ck a1 20 ((if a2 = (20 : Int32) then bo (pgi σ (lR σ 0 2 a1) 6 0) (fun (v_20 : Int32) => some v_20) else (if a2 = (21 : Int32) then bo (pgi σ (lR σ 0 2 a1) 6 1) (fun (v_18 : Int32) => some v_18) else bo (pgi σ (lR σ 0 2 a1) 6 2) (fun (v_16 : Int32) => some v_16)))))))) else bo (cp_isThing σ a1) (fun (r_22 : Int32) => (if r_22 = 0 then some (-2000000000 : Int32) else (if a2 = (10 : Int32) then ck a1 6 (bo (pgi σ (lR σ 0 1 a1) 5 0) (fun (v_28 : Int32) => some v_28)) else ck a1 6 (bo (pgi σ (lR σ 0 1 a1) 5 1) (fun (v_26 : Int32) => some v_26))))))) else bo (cp_isPerson σ a1) (fun (r_30 : Int32) => (if r_30 = 0 then some (-2000000000 : Int32) else ck a1 10 ((if a2 = 0 then bo (pgi σ (lR σ 0 0 a1) 4 1) (fun (v_42 : Int32) => some v_42) else (if a2 = (1 : Int32) then bo (pgi σ (lR σ 0 0 a1) 4 2) (fun (v_40 : Int32) => some v_40) else (if a2 = (2 : Int32) then bo (pgi σ (lR σ 0 0 a1) 4 0) (fun (v_38 : Int32) => some v_38) else bo (pgi σ (lR σ 0 0 a1) 4 3) (fun (v_36 : Int32) => some v_36)))))))))
abbrev rm_X0_of : Room := rmf 2 43
set_option maxHeartbeats 4000000 in
set_option maxRecDepth 100000 in
theorem mt_X0_of (l : Launch) (G : GT) (σ : ST) (a1 : Int32) (a2 : Int32) {r : Int32} (h : cp_of σ a1 a2 = some r) : CI l cp_ft G yX0_of (ws_ yX0_of cX0_of 4 (some .int)) rm_X0_of 0 0 [.ref (G.2.2.1 0), .int a1, .int a2] σ (r, σ) := by
  refine m_enterI (by decide) rfl (lv := [(0, .ref (G.2.2.1 0)), (1, .int a1), (2, .int a2)]) rfl ?_
  intro p e s m args below meth c H locs ls Q X hret hP hl
  have hx := X.1.1
  have hb := X.1.2.1
  have hown := X.1.2.2.2.1
  have hts := X.1.2.2.2.2
  unfold cp_of at h
  refine lv_iload_n hx hb dX0_of_0 rfl (lv_at hl 2 rfl) ?_
  refine lv_iconst (v := (0 : Int32)) hx hb dX0_of_1 (by decide) ?_
  refine lv_iconst (v := (3 : Int32)) hx hb dX0_of_2 (by decide) ?_
  obtain ⟨r_2, e_1, h⟩ := bo_ex h
  refine r_calli (r_runS (rest := []) X hP (mt_X0_in l G σ a2 (0 : Int32) (3 : Int32) e_1) (va_cwS 3 hts (lw_S q396 q397 q110 q398) rfl rfl rfl cdX0_in ⟨Nat.le_of_ble_eq_true rfl, Nat.le_of_ble_eq_true rfl⟩) rfl hl.1 rfl (Nat.le_of_ble_eq_true rfl) dX0_of_3 ⟨Nat.le_refl _, Nat.le_refl _⟩) hP (fun H locs hP => ?_)
  refine lv_if_eq (tgt := 67) hx hb dX0_of_6 (by decide) (fun c_3 => ?_) (fun c_3 => ?_)
  · have h := it_t h c_3
    refine lv_iload_n hx hb dX0_of_67 rfl (lv_at hl 2 rfl) ?_
    refine lv_bipush (v := (10 : Int32)) hx hb dX0_of_68 (by decide) ?_
    refine lv_bipush (v := (11 : Int32)) hx hb dX0_of_70 (by decide) ?_
    obtain ⟨r_5, e_4, h⟩ := bo_ex h
    refine r_calli (r_runS (rest := []) X hP (mt_X0_in l G σ a2 (10 : Int32) (11 : Int32) e_4) (va_cwS 3 hts (lw_S q396 q397 q110 q398) rfl rfl rfl cdX0_in ⟨Nat.le_of_ble_eq_true rfl, Nat.le_of_ble_eq_true rfl⟩) rfl hl.1 rfl (Nat.le_of_ble_eq_true rfl) dX0_of_72 ⟨Nat.le_refl _, Nat.le_refl _⟩) hP (fun H locs hP => ?_)
    refine lv_if_eq (tgt := 119) hx hb dX0_of_75 (by decide) (fun c_6 => ?_) (fun c_6 => ?_)
    · have h := it_t h c_6
      refine lv_iload_n hx hb dX0_of_119 rfl (lv_at hl 2 rfl) ?_
      refine lv_bipush (v := (20 : Int32)) hx hb dX0_of_120 (by decide) ?_
      refine lv_bipush (v := (22 : Int32)) hx hb dX0_of_122 (by decide) ?_
      obtain ⟨r_8, e_7, h⟩ := bo_ex h
      refine r_calli (r_runS (rest := []) X hP (mt_X0_in l G σ a2 (20 : Int32) (22 : Int32) e_7) (va_cwS 3 hts (lw_S q396 q397 q110 q398) rfl rfl rfl cdX0_in ⟨Nat.le_of_ble_eq_true rfl, Nat.le_of_ble_eq_true rfl⟩) rfl hl.1 rfl (Nat.le_of_ble_eq_true rfl) dX0_of_124 ⟨Nat.le_refl _, Nat.le_refl _⟩) hP (fun H locs hP => ?_)
      refine lv_if_eq (tgt := 144) hx hb dX0_of_127 (by decide) (fun c_9 => ?_) (fun c_9 => ?_)
      · have h := it_t h c_9
        refine lv_ldc hx hb hown (hts _ q632) dX0_of_144 ?_
        exact hret _ _ _ _ _ _ dX0_of_146 rfl (congrArg (fun z9 => (z9, σ)) (Option.some.inj h)) hP
      · have h := it_f h c_9
        refine lv_iload_n hx hb dX0_of_130 rfl (lv_at hl 1 rfl) ?_
        refine lv_iconst (v := (0 : Int32)) hx hb dX0_of_131 (by decide) ?_
        refine lv_aload_n hx hb dX0_of_132 rfl (lv_at hl 0 rfl) ?_
        refine r_geti X hP 0 cp_c0 lk_0 5 (Nat.le_of_ble_eq_true rfl) q291 cp_f5 dX0_of_133 ?_
        refine lv_iconst (v := (1 : Int32)) hx hb dX0_of_136 (by decide) ?_
        refine lv_isub hx hb dX0_of_137 ?_
        obtain ⟨r_11, e_10, h⟩ := bo_ex h
        refine r_calli (r_runS (rest := []) X hP (mt_X0_in l G σ a1 (0 : Int32) ((gI σ 0 5) - (1 : Int32)) e_10) (va_cwS 3 hts (lw_S q396 q397 q110 q398) rfl rfl rfl cdX0_in ⟨Nat.le_of_ble_eq_true rfl, Nat.le_of_ble_eq_true rfl⟩) rfl hl.1 rfl (Nat.le_of_ble_eq_true rfl) dX0_of_138 ⟨Nat.le_refl _, Nat.le_refl _⟩) hP (fun H locs hP => ?_)
        refine lv_if_ne (tgt := 147) hx hb dX0_of_141 (by decide) (fun c_12 => ?_) (fun c_12 => ?_)
        · have h := it_f h c_12
          refine lv_aload_n hx hb dX0_of_147 rfl (lv_at hl 0 rfl) ?_
          refine r_geta X hP 0 cp_c0 lk_0 2 (Nat.le_of_ble_eq_true rfl) q284 cp_f2 dX0_of_148 ?_
          refine lv_iload_n hx hb dX0_of_151 rfl (lv_at hl 1 rfl) ?_
          refine r_aald (t := 2) X hP 3 cp_c3 rfl (ck_in h) dX0_of_152 ?_
          have h := ck_k h
          refine rr_astore_n (lv' := [(3, va_rf (lR σ 0 2 a1)), (0, .ref (G.2.2.1 0)), (1, .int a1), (2, .int a2)]) hx hb dX0_of_153 rfl hl (by decide) rfl (fun ls hl => ?_)
          refine lv_iload_n hx hb dX0_of_154 rfl (lv_at hl 3 rfl) ?_
          refine lv_bipush (v := (20 : Int32)) hx hb dX0_of_155 (by decide) ?_
          refine lv_icmp_ne (tgt := 167) hx hb dX0_of_157 (by decide) (fun c_13 => ?_) (fun c_13 => ?_)
          · have h := it_f h c_13
            refine lv_iload_n hx hb dX0_of_167 rfl (lv_at hl 3 rfl) ?_
            refine lv_bipush (v := (21 : Int32)) hx hb dX0_of_168 (by decide) ?_
            refine lv_icmp_ne (tgt := 180) hx hb dX0_of_170 (by decide) (fun c_14 => ?_) (fun c_14 => ?_)
            · have h := it_f h c_14
              refine rr_aload_n hx hb dX0_of_180 rfl (lv_at hl 0 rfl) ?_
              obtain ⟨v_16, e_15, h⟩ := bo_ex h
              refine r_pgiN (r := (lR σ 0 2 a1)) X hP lk_6 2 (Nat.le_of_ble_eq_true rfl) e_15 q472 dX0_of_181 ?_
              exact hret _ _ _ _ _ _ dX0_of_184 rfl (congrArg (fun z9 => (z9, σ)) (Option.some.inj h)) hP
            · have h := it_t h c_14
              refine rr_aload_n hx hb dX0_of_173 rfl (lv_at hl 0 rfl) ?_
              obtain ⟨v_18, e_17, h⟩ := bo_ex h
              refine r_pgiN (r := (lR σ 0 2 a1)) X hP lk_6 1 (Nat.le_of_ble_eq_true rfl) e_17 q469 dX0_of_174 ?_
              refine lv_goto (tgt := 184) hx hb dX0_of_177 (by decide) ?_
              exact hret _ _ _ _ _ _ dX0_of_184 rfl (congrArg (fun z9 => (z9, σ)) (Option.some.inj h)) hP
          · have h := it_t h c_13
            refine rr_aload_n hx hb dX0_of_160 rfl (lv_at hl 0 rfl) ?_
            obtain ⟨v_20, e_19, h⟩ := bo_ex h
            refine r_pgiN (r := (lR σ 0 2 a1)) X hP lk_6 0 (Nat.le_of_ble_eq_true rfl) e_19 q467 dX0_of_161 ?_
            refine lv_goto (tgt := 184) hx hb dX0_of_164 (by decide) ?_
            exact hret _ _ _ _ _ _ dX0_of_184 rfl (congrArg (fun z9 => (z9, σ)) (Option.some.inj h)) hP
        · have h := it_t h c_12
          refine lv_ldc hx hb hown (hts _ q632) dX0_of_144 ?_
          exact hret _ _ _ _ _ _ dX0_of_146 rfl (congrArg (fun z9 => (z9, σ)) (Option.some.inj h)) hP
    · have h := it_f h c_6
      refine lv_aload_n hx hb dX0_of_78 rfl (lv_at hl 0 rfl) ?_
      refine lv_iload_n hx hb dX0_of_79 rfl (lv_at hl 1 rfl) ?_
      obtain ⟨r_22, e_21, h⟩ := bo_ex h
      refine r_calli (r_runV (rest := []) X hP 0 cp_c0 lk_0 (mt_X0_isThing l G σ a1 e_21) (cwV 1 hts (lw_V q452 q454 qs1 q110 q455) rfl rfl rfl ⟨rfl, cdX0_isThing⟩ ⟨Nat.le_of_ble_eq_true rfl, Nat.le_of_ble_eq_true rfl⟩) rfl hl.1 rfl (Nat.le_of_ble_eq_true rfl) dX0_of_80 ⟨Nat.le_refl _, Nat.le_refl _⟩) hP (fun H locs hP => ?_)
      refine lv_if_ne (tgt := 91) hx hb dX0_of_83 (by decide) (fun c_23 => ?_) (fun c_23 => ?_)
      · have h := it_f h c_23
        refine lv_iload_n hx hb dX0_of_91 rfl (lv_at hl 2 rfl) ?_
        refine lv_bipush (v := (10 : Int32)) hx hb dX0_of_92 (by decide) ?_
        refine lv_icmp_ne (tgt := 109) hx hb dX0_of_94 (by decide) (fun c_24 => ?_) (fun c_24 => ?_)
        · have h := it_f h c_24
          refine lv_aload_n hx hb dX0_of_109 rfl (lv_at hl 0 rfl) ?_
          refine r_geta X hP 0 cp_c0 lk_0 1 (Nat.le_of_ble_eq_true rfl) q282 cp_f1 dX0_of_110 ?_
          refine lv_iload_n hx hb dX0_of_113 rfl (lv_at hl 1 rfl) ?_
          refine r_aald (t := 1) X hP 2 cp_c2 rfl (ck_in h) dX0_of_114 ?_
          have h := ck_k h
          obtain ⟨v_26, e_25, h⟩ := bo_ex h
          refine r_pgiN (r := (lR σ 0 1 a1)) X hP lk_5 1 (Nat.le_of_ble_eq_true rfl) e_25 q438 dX0_of_115 ?_
          exact hret _ _ _ _ _ _ dX0_of_118 rfl (congrArg (fun z9 => (z9, σ)) (Option.some.inj h)) hP
        · have h := it_t h c_24
          refine lv_aload_n hx hb dX0_of_97 rfl (lv_at hl 0 rfl) ?_
          refine r_geta X hP 0 cp_c0 lk_0 1 (Nat.le_of_ble_eq_true rfl) q282 cp_f1 dX0_of_98 ?_
          refine lv_iload_n hx hb dX0_of_101 rfl (lv_at hl 1 rfl) ?_
          refine r_aald (t := 1) X hP 2 cp_c2 rfl (ck_in h) dX0_of_102 ?_
          have h := ck_k h
          obtain ⟨v_28, e_27, h⟩ := bo_ex h
          refine r_pgiN (r := (lR σ 0 1 a1)) X hP lk_5 0 (Nat.le_of_ble_eq_true rfl) e_27 q435 dX0_of_103 ?_
          refine lv_goto (tgt := 118) hx hb dX0_of_106 (by decide) ?_
          exact hret _ _ _ _ _ _ dX0_of_118 rfl (congrArg (fun z9 => (z9, σ)) (Option.some.inj h)) hP
      · have h := it_t h c_23
        refine lv_ldc hx hb hown (hts _ q632) dX0_of_86 ?_
        refine lv_goto (tgt := 118) hx hb dX0_of_88 (by decide) ?_
        exact hret _ _ _ _ _ _ dX0_of_118 rfl (congrArg (fun z9 => (z9, σ)) (Option.some.inj h)) hP
  · have h := it_f h c_3
    refine lv_aload_n hx hb dX0_of_9 rfl (lv_at hl 0 rfl) ?_
    refine lv_iload_n hx hb dX0_of_10 rfl (lv_at hl 1 rfl) ?_
    obtain ⟨r_30, e_29, h⟩ := bo_ex h
    refine r_calli (r_runV (rest := []) X hP 0 cp_c0 lk_0 (mt_X0_isPerson l G σ a1 e_29) (cwV 1 hts (lw_V q628 q630 qs5 q110 q631) rfl rfl rfl ⟨rfl, cdX0_isPerson⟩ ⟨Nat.le_of_ble_eq_true rfl, Nat.le_of_ble_eq_true rfl⟩) rfl hl.1 rfl (Nat.le_of_ble_eq_true rfl) dX0_of_11 ⟨Nat.le_refl _, Nat.le_refl _⟩) hP (fun H locs hP => ?_)
    refine lv_if_ne (tgt := 20) hx hb dX0_of_14 (by decide) (fun c_31 => ?_) (fun c_31 => ?_)
    · have h := it_f h c_31
      refine lv_aload_n hx hb dX0_of_20 rfl (lv_at hl 0 rfl) ?_
      refine r_geta X hP 0 cp_c0 lk_0 0 (Nat.le_of_ble_eq_true rfl) q280 cp_f0 dX0_of_21 ?_
      refine lv_iload_n hx hb dX0_of_24 rfl (lv_at hl 1 rfl) ?_
      refine r_aald (t := 0) X hP 1 cp_c1 rfl (ck_in h) dX0_of_25 ?_
      have h := ck_k h
      refine rr_astore_n (lv' := [(3, va_rf (lR σ 0 0 a1)), (0, .ref (G.2.2.1 0)), (1, .int a1), (2, .int a2)]) hx hb dX0_of_26 rfl hl (by decide) rfl (fun ls hl => ?_)
      refine lv_iload_n hx hb dX0_of_27 rfl (lv_at hl 3 rfl) ?_
      refine lv_if_ne (tgt := 38) hx hb dX0_of_28 (by decide) (fun c_32 => ?_) (fun c_32 => ?_)
      · have h := it_f h c_32
        refine lv_iload_n hx hb dX0_of_38 rfl (lv_at hl 3 rfl) ?_
        refine lv_iconst (v := (1 : Int32)) hx hb dX0_of_39 (by decide) ?_
        refine lv_icmp_ne (tgt := 50) hx hb dX0_of_40 (by decide) (fun c_33 => ?_) (fun c_33 => ?_)
        · have h := it_f h c_33
          refine lv_iload_n hx hb dX0_of_50 rfl (lv_at hl 3 rfl) ?_
          refine lv_iconst (v := (2 : Int32)) hx hb dX0_of_51 (by decide) ?_
          refine lv_icmp_ne (tgt := 62) hx hb dX0_of_52 (by decide) (fun c_34 => ?_) (fun c_34 => ?_)
          · have h := it_f h c_34
            refine rr_aload_n hx hb dX0_of_62 rfl (lv_at hl 0 rfl) ?_
            obtain ⟨v_36, e_35, h⟩ := bo_ex h
            refine r_pgiN (r := (lR σ 0 0 a1)) X hP lk_4 3 (Nat.le_of_ble_eq_true rfl) e_35 q415 dX0_of_63 ?_
            exact hret _ _ _ _ _ _ dX0_of_66 rfl (congrArg (fun z9 => (z9, σ)) (Option.some.inj h)) hP
          · have h := it_t h c_34
            refine rr_aload_n hx hb dX0_of_55 rfl (lv_at hl 0 rfl) ?_
            obtain ⟨v_38, e_37, h⟩ := bo_ex h
            refine r_pgiN (r := (lR σ 0 0 a1)) X hP lk_4 0 (Nat.le_of_ble_eq_true rfl) e_37 q405 dX0_of_56 ?_
            refine lv_goto (tgt := 66) hx hb dX0_of_59 (by decide) ?_
            exact hret _ _ _ _ _ _ dX0_of_66 rfl (congrArg (fun z9 => (z9, σ)) (Option.some.inj h)) hP
        · have h := it_t h c_33
          refine rr_aload_n hx hb dX0_of_43 rfl (lv_at hl 0 rfl) ?_
          obtain ⟨v_40, e_39, h⟩ := bo_ex h
          refine r_pgiN (r := (lR σ 0 0 a1)) X hP lk_4 2 (Nat.le_of_ble_eq_true rfl) e_39 q411 dX0_of_44 ?_
          refine lv_goto (tgt := 66) hx hb dX0_of_47 (by decide) ?_
          exact hret _ _ _ _ _ _ dX0_of_66 rfl (congrArg (fun z9 => (z9, σ)) (Option.some.inj h)) hP
      · have h := it_t h c_32
        refine rr_aload_n hx hb dX0_of_31 rfl (lv_at hl 0 rfl) ?_
        obtain ⟨v_42, e_41, h⟩ := bo_ex h
        refine r_pgiN (r := (lR σ 0 0 a1)) X hP lk_4 1 (Nat.le_of_ble_eq_true rfl) e_41 q408 dX0_of_32 ?_
        refine lv_goto (tgt := 66) hx hb dX0_of_35 (by decide) ?_
        exact hret _ _ _ _ _ _ dX0_of_66 rfl (congrArg (fun z9 => (z9, σ)) (Option.some.inj h)) hP
    · have h := it_t h c_31
      refine lv_ldc hx hb hown (hts _ q632) dX0_of_17 ?_
      exact hret _ _ _ _ _ _ dX0_of_19 rfl (congrArg (fun z9 => (z9, σ)) (Option.some.inj h)) hP
def cp_setTo (σ : ST) (a1 : Int32) (a2 : Int32) (a3 : Int32) : Option ST :=
  (if a1 = (0 : Int32) then ck a2 10 (bo (ppv σ (lR σ 0 0 a2) 4 1 (.int a3)) (fun (σ_3 : ST) => some σ_3)) else (if a1 = (1 : Int32) then ck a2 10 (bo (ppv σ (lR σ 0 0 a2) 4 2 (.int a3)) (fun (σ_6 : ST) => some σ_6)) else (if a1 = (2 : Int32) then ck a2 10 (bo (ppv σ (lR σ 0 0 a2) 4 3 (.int a3)) (fun (σ_9 : ST) => some σ_9)) else (if a1 = (3 : Int32) then ck a2 6 (bo (ppv σ (lR σ 0 1 a2) 5 0 (.int a3)) (fun (σ_12 : ST) => some σ_12)) else ck a2 6 (bo (ppv σ (lR σ 0 1 a2) 5 1 (.int a3)) (fun (σ_14 : ST) => some σ_14))))))
abbrev rm_X0_setTo : Room := rmf 0 0
set_option maxHeartbeats 4000000 in
set_option maxRecDepth 100000 in
theorem mt_X0_setTo (l : Launch) (G : GT) (σ : ST) (a1 : Int32) (a2 : Int32) (a3 : Int32) {u : ST} (h : cp_setTo σ a1 a2 a3 = some u) : CV l cp_ft G yX0_setTo (ws_ yX0_setTo cX0_setTo 4 none) rm_X0_setTo 0 0 [.ref (G.2.2.1 0), .int a1, .int a2, .int a3] σ u := by
  refine m_enterV (by decide) rfl (lv := [(0, .ref (G.2.2.1 0)), (1, .int a1), (2, .int a2), (3, .int a3)]) rfl ?_
  intro p e s m args below meth c H locs ls Q X hnm hret hP hl
  have hx := X.1.1
  have hb := X.1.2.1
  have hown := X.1.2.2.2.1
  have hts := X.1.2.2.2.2
  unfold cp_setTo at h
  refine lv_iload_n hx hb dX0_setTo_0 rfl (lv_at hl 1 rfl) ?_
  by_cases c_1 : a1 = (0 : Int32)
  · have h := it_t h c_1
    refine lv_tableIn (tgt := 32) hx hb dX0_setTo_1 (by rw [c_1]; decide) (by rw [c_1]; decide) (by rw [c_1]; rfl) (by decide) ?_
    refine lv_aload_n hx hb dX0_setTo_32 rfl (lv_at hl 0 rfl) ?_
    refine r_geta X hP 0 cp_c0 lk_0 0 (Nat.le_of_ble_eq_true rfl) q280 cp_f0 dX0_setTo_33 ?_
    refine lv_iload_n hx hb dX0_setTo_36 rfl (lv_at hl 2 rfl) ?_
    refine r_aald (t := 0) X hP 1 cp_c1 rfl (ck_in h) dX0_setTo_37 ?_
    have h := ck_k h
    refine lv_iload_n hx hb dX0_setTo_38 rfl (lv_at hl 3 rfl) ?_
    obtain ⟨σ_3, e_2, h⟩ := bo_ex h
    refine r_ppvN (r := (lR σ 0 0 a2)) X hP lk_4 1 (Nat.le_of_ble_eq_true rfl) e_2 q408 rfl (tyX4_ok 1 (by decide)) rfl rfl dX0_setTo_39 (fun H locs hP => ?_)
    refine lv_goto (tgt := 94) hx hb dX0_setTo_42 (by decide) ?_
    exact hret _ _ _ _ _ dX0_setTo_94 (Option.some.inj h) hP
  · have h := it_f h c_1
    by_cases c_4 : a1 = (1 : Int32)
    · have h := it_t h c_4
      refine lv_tableIn (tgt := 45) hx hb dX0_setTo_1 (by rw [c_4]; decide) (by rw [c_4]; decide) (by rw [c_4]; rfl) (by decide) ?_
      refine lv_aload_n hx hb dX0_setTo_45 rfl (lv_at hl 0 rfl) ?_
      refine r_geta X hP 0 cp_c0 lk_0 0 (Nat.le_of_ble_eq_true rfl) q280 cp_f0 dX0_setTo_46 ?_
      refine lv_iload_n hx hb dX0_setTo_49 rfl (lv_at hl 2 rfl) ?_
      refine r_aald (t := 0) X hP 1 cp_c1 rfl (ck_in h) dX0_setTo_50 ?_
      have h := ck_k h
      refine lv_iload_n hx hb dX0_setTo_51 rfl (lv_at hl 3 rfl) ?_
      obtain ⟨σ_6, e_5, h⟩ := bo_ex h
      refine r_ppvN (r := (lR σ 0 0 a2)) X hP lk_4 2 (Nat.le_of_ble_eq_true rfl) e_5 q411 rfl (tyX4_ok 2 (by decide)) rfl rfl dX0_setTo_52 (fun H locs hP => ?_)
      refine lv_goto (tgt := 94) hx hb dX0_setTo_55 (by decide) ?_
      exact hret _ _ _ _ _ dX0_setTo_94 (Option.some.inj h) hP
    · have h := it_f h c_4
      by_cases c_7 : a1 = (2 : Int32)
      · have h := it_t h c_7
        refine lv_tableIn (tgt := 58) hx hb dX0_setTo_1 (by rw [c_7]; decide) (by rw [c_7]; decide) (by rw [c_7]; rfl) (by decide) ?_
        refine lv_aload_n hx hb dX0_setTo_58 rfl (lv_at hl 0 rfl) ?_
        refine r_geta X hP 0 cp_c0 lk_0 0 (Nat.le_of_ble_eq_true rfl) q280 cp_f0 dX0_setTo_59 ?_
        refine lv_iload_n hx hb dX0_setTo_62 rfl (lv_at hl 2 rfl) ?_
        refine r_aald (t := 0) X hP 1 cp_c1 rfl (ck_in h) dX0_setTo_63 ?_
        have h := ck_k h
        refine lv_iload_n hx hb dX0_setTo_64 rfl (lv_at hl 3 rfl) ?_
        obtain ⟨σ_9, e_8, h⟩ := bo_ex h
        refine r_ppvN (r := (lR σ 0 0 a2)) X hP lk_4 3 (Nat.le_of_ble_eq_true rfl) e_8 q415 rfl (tyX4_ok 3 (by decide)) rfl rfl dX0_setTo_65 (fun H locs hP => ?_)
        refine lv_goto (tgt := 94) hx hb dX0_setTo_68 (by decide) ?_
        exact hret _ _ _ _ _ dX0_setTo_94 (Option.some.inj h) hP
      · have h := it_f h c_7
        by_cases c_10 : a1 = (3 : Int32)
        · have h := it_t h c_10
          refine lv_tableIn (tgt := 71) hx hb dX0_setTo_1 (by rw [c_10]; decide) (by rw [c_10]; decide) (by rw [c_10]; rfl) (by decide) ?_
          refine lv_aload_n hx hb dX0_setTo_71 rfl (lv_at hl 0 rfl) ?_
          refine r_geta X hP 0 cp_c0 lk_0 1 (Nat.le_of_ble_eq_true rfl) q282 cp_f1 dX0_setTo_72 ?_
          refine lv_iload_n hx hb dX0_setTo_75 rfl (lv_at hl 2 rfl) ?_
          refine r_aald (t := 1) X hP 2 cp_c2 rfl (ck_in h) dX0_setTo_76 ?_
          have h := ck_k h
          refine lv_iload_n hx hb dX0_setTo_77 rfl (lv_at hl 3 rfl) ?_
          obtain ⟨σ_12, e_11, h⟩ := bo_ex h
          refine r_ppvN (r := (lR σ 0 1 a2)) X hP lk_5 0 (Nat.le_of_ble_eq_true rfl) e_11 q435 rfl (tyX5_ok 0 (by decide)) rfl rfl dX0_setTo_78 (fun H locs hP => ?_)
          refine lv_goto (tgt := 94) hx hb dX0_setTo_81 (by decide) ?_
          exact hret _ _ _ _ _ dX0_setTo_94 (Option.some.inj h) hP
        · have h := it_f h c_10
          refine lv_tableOut (tgt := 84) hx hb dX0_setTo_1 (by have n0 := lv_neT c_1 (a := 0) (by decide); have n1 := lv_neT c_4 (a := 1) (by decide); have n2 := lv_neT c_7 (a := 2) (by decide); have n3 := lv_neT c_10 (a := 3) (by decide); omega) (by decide) ?_
          refine lv_aload_n hx hb dX0_setTo_84 rfl (lv_at hl 0 rfl) ?_
          refine r_geta X hP 0 cp_c0 lk_0 1 (Nat.le_of_ble_eq_true rfl) q282 cp_f1 dX0_setTo_85 ?_
          refine lv_iload_n hx hb dX0_setTo_88 rfl (lv_at hl 2 rfl) ?_
          refine r_aald (t := 1) X hP 2 cp_c2 rfl (ck_in h) dX0_setTo_89 ?_
          have h := ck_k h
          refine lv_iload_n hx hb dX0_setTo_90 rfl (lv_at hl 3 rfl) ?_
          obtain ⟨σ_14, e_13, h⟩ := bo_ex h
          refine r_ppvN (r := (lR σ 0 1 a2)) X hP lk_5 1 (Nat.le_of_ble_eq_true rfl) e_13 q438 rfl (tyX5_ok 1 (by decide)) rfl rfl dX0_setTo_91 (fun H locs hP => ?_)
          exact hret _ _ _ _ _ dX0_setTo_94 (Option.some.inj h) hP
def cp_undo (σ : ST)  : Option (Int32 × ST) :=
  (if (gI σ 0 10) = 0 then some ((-5 : Int32), σ) else st_ (pI σ 0 10 ((gI σ 0 10) - (1 : Int32))) (fun (σ_2 : ST) => st_ (pI σ_2 0 11 ((gI σ_2 0 11) + (1 : Int32))) (fun (σ_4 : ST) => ck (gI σ_4 0 10) 40 (bo (pgi σ_4 (lR σ_4 0 9 (gI σ_4 0 10)) 14 0) (fun (v_7 : Int32) => ck (gI σ_4 0 10) 40 (bo (pgi σ_4 (lR σ_4 0 9 (gI σ_4 0 10)) 14 1) (fun (v_9 : Int32) => ck (gI σ_4 0 10) 40 (bo (pgi σ_4 (lR σ_4 0 9 (gI σ_4 0 10)) 14 2) (fun (v_11 : Int32) => bo (cp_setTo σ_4 v_7 v_9 v_11) (fun (σ_13 : ST) => some ((gI σ_13 0 10), σ_13)))))))))))
abbrev rm_X0_undo : Room := rmf 1 23
set_option maxHeartbeats 4000000 in
set_option maxRecDepth 100000 in
theorem mt_X0_undo (l : Launch) (G : GT) (σ : ST)  {r : Int32} {u : ST} (h : cp_undo σ = some (r, u)) : CI l cp_ft G yX0_undo (ws_ yX0_undo cX0_undo 1 (some .int)) rm_X0_undo 0 0 [.ref (G.2.2.1 0)] σ (r, u) := by
  refine m_enterI (by decide) rfl (lv := [(0, .ref (G.2.2.1 0))]) rfl ?_
  intro p e s m args below meth c H locs ls Q X hret hP hl
  have hx := X.1.1
  have hb := X.1.2.1
  have hown := X.1.2.2.2.1
  have hts := X.1.2.2.2.2
  unfold cp_undo at h
  refine lv_aload_n hx hb dX0_undo_0 rfl (lv_at hl 0 rfl) ?_
  refine r_geti X hP 0 cp_c0 lk_0 10 (Nat.le_of_ble_eq_true rfl) q297 cp_f10 dX0_undo_1 ?_
  refine lv_if_ne (tgt := 10) hx hb dX0_undo_4 (by decide) (fun c_1 => ?_) (fun c_1 => ?_)
  · have h := it_f h c_1
    refine lv_aload_n hx hb dX0_undo_10 rfl (lv_at hl 0 rfl) ?_
    refine lv_dup hx hb dX0_undo_11 rfl ?_
    refine r_geti X hP 0 cp_c0 lk_0 10 (Nat.le_of_ble_eq_true rfl) q297 cp_f10 dX0_undo_12 ?_
    refine lv_iconst (v := (1 : Int32)) hx hb dX0_undo_15 (by decide) ?_
    refine lv_isub hx hb dX0_undo_16 ?_
    refine r_puti X cp_w hP 0 cp_c0 lk_0 10 (Nat.le_of_ble_eq_true rfl) q297 cp_f10 rfl (tyX0_ok 10 (by decide)) rfl rfl dX0_undo_17 (fun σ_2 H locs e_3 hP => ?_)
    have h := st_k h e_3
    refine lv_aload_n hx hb dX0_undo_20 rfl (lv_at hl 0 rfl) ?_
    refine lv_dup hx hb dX0_undo_21 rfl ?_
    refine r_geti X hP 0 cp_c0 lk_0 11 (Nat.le_of_ble_eq_true rfl) q298 cp_f11 dX0_undo_22 ?_
    refine lv_iconst (v := (1 : Int32)) hx hb dX0_undo_25 (by decide) ?_
    refine lv_iadd hx hb dX0_undo_26 ?_
    refine r_puti X cp_w hP 0 cp_c0 lk_0 11 (Nat.le_of_ble_eq_true rfl) q298 cp_f11 rfl (tyX0_ok 11 (by decide)) rfl rfl dX0_undo_27 (fun σ_4 H locs e_5 hP => ?_)
    have h := st_k h e_5
    refine lv_aload_n hx hb dX0_undo_30 rfl (lv_at hl 0 rfl) ?_
    refine lv_aload_n hx hb dX0_undo_31 rfl (lv_at hl 0 rfl) ?_
    refine r_geta X hP 0 cp_c0 lk_0 9 (Nat.le_of_ble_eq_true rfl) q296 cp_f9 dX0_undo_32 ?_
    refine lv_aload_n hx hb dX0_undo_35 rfl (lv_at hl 0 rfl) ?_
    refine r_geti X hP 0 cp_c0 lk_0 10 (Nat.le_of_ble_eq_true rfl) q297 cp_f10 dX0_undo_36 ?_
    refine r_aald (t := 3) X hP 4 cp_c4 rfl (ck_in h) dX0_undo_39 ?_
    have h := ck_k h
    obtain ⟨v_7, e_6, h⟩ := bo_ex h
    refine r_pgiN (r := (lR σ_4 0 9 (gI σ_4 0 10))) X hP lk_14 0 (Nat.le_of_ble_eq_true rfl) e_6 q659 dX0_undo_40 ?_
    refine lv_aload_n hx hb dX0_undo_43 rfl (lv_at hl 0 rfl) ?_
    refine r_geta X hP 0 cp_c0 lk_0 9 (Nat.le_of_ble_eq_true rfl) q296 cp_f9 dX0_undo_44 ?_
    refine lv_aload_n hx hb dX0_undo_47 rfl (lv_at hl 0 rfl) ?_
    refine r_geti X hP 0 cp_c0 lk_0 10 (Nat.le_of_ble_eq_true rfl) q297 cp_f10 dX0_undo_48 ?_
    refine r_aald (t := 3) X hP 4 cp_c4 rfl (ck_in h) dX0_undo_51 ?_
    have h := ck_k h
    obtain ⟨v_9, e_8, h⟩ := bo_ex h
    refine r_pgiN (r := (lR σ_4 0 9 (gI σ_4 0 10))) X hP lk_14 1 (Nat.le_of_ble_eq_true rfl) e_8 q661 dX0_undo_52 ?_
    refine lv_aload_n hx hb dX0_undo_55 rfl (lv_at hl 0 rfl) ?_
    refine r_geta X hP 0 cp_c0 lk_0 9 (Nat.le_of_ble_eq_true rfl) q296 cp_f9 dX0_undo_56 ?_
    refine lv_aload_n hx hb dX0_undo_59 rfl (lv_at hl 0 rfl) ?_
    refine r_geti X hP 0 cp_c0 lk_0 10 (Nat.le_of_ble_eq_true rfl) q297 cp_f10 dX0_undo_60 ?_
    refine r_aald (t := 3) X hP 4 cp_c4 rfl (ck_in h) dX0_undo_63 ?_
    have h := ck_k h
    obtain ⟨v_11, e_10, h⟩ := bo_ex h
    refine r_pgiN (r := (lR σ_4 0 9 (gI σ_4 0 10))) X hP lk_14 2 (Nat.le_of_ble_eq_true rfl) e_10 q663 dX0_undo_64 ?_
    obtain ⟨σ_13, e_12, h⟩ := bo_ex h
    refine r_callv (r_runV (rest := []) X hP 0 cp_c0 lk_0 (mt_X0_setTo l G σ_4 v_7 v_9 v_11 e_12) (cwV 3 hts (lw_V q637 q639 qs6 q110 q640) rfl rfl rfl ⟨rfl, cdX0_setTo⟩ ⟨Nat.le_of_ble_eq_true rfl, Nat.le_of_ble_eq_true rfl⟩) rfl hl.1 rfl (Nat.le_of_ble_eq_true rfl) dX0_undo_67 ⟨Nat.le_refl _, Nat.le_refl _⟩) hP (fun H locs hP => ?_)
    refine lv_aload_n hx hb dX0_undo_70 rfl (lv_at hl 0 rfl) ?_
    refine r_geti X hP 0 cp_c0 lk_0 10 (Nat.le_of_ble_eq_true rfl) q297 cp_f10 dX0_undo_71 ?_
    exact hret _ _ _ _ _ _ dX0_undo_74 rfl (Option.some.inj h) hP
  · have h := it_t h c_1
    refine lv_bipush (v := (-5 : Int32)) hx hb dX0_undo_7 (by decide) ?_
    exact hret _ _ _ _ _ _ dX0_undo_9 rfl (Option.some.inj h) hP
def cp_redo (σ : ST)  : Option (Int32 × ST) :=
  (if (gI σ 0 11) = 0 then some ((-5 : Int32), σ) else ck (gI σ 0 10) 40 (bo (pgi σ (lR σ 0 9 (gI σ 0 10)) 14 0) (fun (v_3 : Int32) => ck (gI σ 0 10) 40 (bo (pgi σ (lR σ 0 9 (gI σ 0 10)) 14 1) (fun (v_5 : Int32) => ck (gI σ 0 10) 40 (bo (pgi σ (lR σ 0 9 (gI σ 0 10)) 14 3) (fun (v_7 : Int32) => bo (cp_setTo σ v_3 v_5 v_7) (fun (σ_9 : ST) => st_ (pI σ_9 0 10 ((gI σ_9 0 10) + (1 : Int32))) (fun (σ_10 : ST) => st_ (pI σ_10 0 11 ((gI σ_10 0 11) - (1 : Int32))) (fun (σ_12 : ST) => some ((gI σ_12 0 11), σ_12)))))))))))
abbrev rm_X0_redo : Room := rmf 1 23
set_option maxHeartbeats 4000000 in
set_option maxRecDepth 100000 in
theorem mt_X0_redo (l : Launch) (G : GT) (σ : ST)  {r : Int32} {u : ST} (h : cp_redo σ = some (r, u)) : CI l cp_ft G yX0_redo (ws_ yX0_redo cX0_redo 1 (some .int)) rm_X0_redo 0 0 [.ref (G.2.2.1 0)] σ (r, u) := by
  refine m_enterI (by decide) rfl (lv := [(0, .ref (G.2.2.1 0))]) rfl ?_
  intro p e s m args below meth c H locs ls Q X hret hP hl
  have hx := X.1.1
  have hb := X.1.2.1
  have hown := X.1.2.2.2.1
  have hts := X.1.2.2.2.2
  unfold cp_redo at h
  refine lv_aload_n hx hb dX0_redo_0 rfl (lv_at hl 0 rfl) ?_
  refine r_geti X hP 0 cp_c0 lk_0 11 (Nat.le_of_ble_eq_true rfl) q298 cp_f11 dX0_redo_1 ?_
  refine lv_if_ne (tgt := 10) hx hb dX0_redo_4 (by decide) (fun c_1 => ?_) (fun c_1 => ?_)
  · have h := it_f h c_1
    refine lv_aload_n hx hb dX0_redo_10 rfl (lv_at hl 0 rfl) ?_
    refine lv_aload_n hx hb dX0_redo_11 rfl (lv_at hl 0 rfl) ?_
    refine r_geta X hP 0 cp_c0 lk_0 9 (Nat.le_of_ble_eq_true rfl) q296 cp_f9 dX0_redo_12 ?_
    refine lv_aload_n hx hb dX0_redo_15 rfl (lv_at hl 0 rfl) ?_
    refine r_geti X hP 0 cp_c0 lk_0 10 (Nat.le_of_ble_eq_true rfl) q297 cp_f10 dX0_redo_16 ?_
    refine r_aald (t := 3) X hP 4 cp_c4 rfl (ck_in h) dX0_redo_19 ?_
    have h := ck_k h
    obtain ⟨v_3, e_2, h⟩ := bo_ex h
    refine r_pgiN (r := (lR σ 0 9 (gI σ 0 10))) X hP lk_14 0 (Nat.le_of_ble_eq_true rfl) e_2 q659 dX0_redo_20 ?_
    refine lv_aload_n hx hb dX0_redo_23 rfl (lv_at hl 0 rfl) ?_
    refine r_geta X hP 0 cp_c0 lk_0 9 (Nat.le_of_ble_eq_true rfl) q296 cp_f9 dX0_redo_24 ?_
    refine lv_aload_n hx hb dX0_redo_27 rfl (lv_at hl 0 rfl) ?_
    refine r_geti X hP 0 cp_c0 lk_0 10 (Nat.le_of_ble_eq_true rfl) q297 cp_f10 dX0_redo_28 ?_
    refine r_aald (t := 3) X hP 4 cp_c4 rfl (ck_in h) dX0_redo_31 ?_
    have h := ck_k h
    obtain ⟨v_5, e_4, h⟩ := bo_ex h
    refine r_pgiN (r := (lR σ 0 9 (gI σ 0 10))) X hP lk_14 1 (Nat.le_of_ble_eq_true rfl) e_4 q661 dX0_redo_32 ?_
    refine lv_aload_n hx hb dX0_redo_35 rfl (lv_at hl 0 rfl) ?_
    refine r_geta X hP 0 cp_c0 lk_0 9 (Nat.le_of_ble_eq_true rfl) q296 cp_f9 dX0_redo_36 ?_
    refine lv_aload_n hx hb dX0_redo_39 rfl (lv_at hl 0 rfl) ?_
    refine r_geti X hP 0 cp_c0 lk_0 10 (Nat.le_of_ble_eq_true rfl) q297 cp_f10 dX0_redo_40 ?_
    refine r_aald (t := 3) X hP 4 cp_c4 rfl (ck_in h) dX0_redo_43 ?_
    have h := ck_k h
    obtain ⟨v_7, e_6, h⟩ := bo_ex h
    refine r_pgiN (r := (lR σ 0 9 (gI σ 0 10))) X hP lk_14 3 (Nat.le_of_ble_eq_true rfl) e_6 q665 dX0_redo_44 ?_
    obtain ⟨σ_9, e_8, h⟩ := bo_ex h
    refine r_callv (r_runV (rest := []) X hP 0 cp_c0 lk_0 (mt_X0_setTo l G σ v_3 v_5 v_7 e_8) (cwV 3 hts (lw_V q637 q639 qs6 q110 q640) rfl rfl rfl ⟨rfl, cdX0_setTo⟩ ⟨Nat.le_of_ble_eq_true rfl, Nat.le_of_ble_eq_true rfl⟩) rfl hl.1 rfl (Nat.le_of_ble_eq_true rfl) dX0_redo_47 ⟨Nat.le_refl _, Nat.le_refl _⟩) hP (fun H locs hP => ?_)
    refine lv_aload_n hx hb dX0_redo_50 rfl (lv_at hl 0 rfl) ?_
    refine lv_dup hx hb dX0_redo_51 rfl ?_
    refine r_geti X hP 0 cp_c0 lk_0 10 (Nat.le_of_ble_eq_true rfl) q297 cp_f10 dX0_redo_52 ?_
    refine lv_iconst (v := (1 : Int32)) hx hb dX0_redo_55 (by decide) ?_
    refine lv_iadd hx hb dX0_redo_56 ?_
    refine r_puti X cp_w hP 0 cp_c0 lk_0 10 (Nat.le_of_ble_eq_true rfl) q297 cp_f10 rfl (tyX0_ok 10 (by decide)) rfl rfl dX0_redo_57 (fun σ_10 H locs e_11 hP => ?_)
    have h := st_k h e_11
    refine lv_aload_n hx hb dX0_redo_60 rfl (lv_at hl 0 rfl) ?_
    refine lv_dup hx hb dX0_redo_61 rfl ?_
    refine r_geti X hP 0 cp_c0 lk_0 11 (Nat.le_of_ble_eq_true rfl) q298 cp_f11 dX0_redo_62 ?_
    refine lv_iconst (v := (1 : Int32)) hx hb dX0_redo_65 (by decide) ?_
    refine lv_isub hx hb dX0_redo_66 ?_
    refine r_puti X cp_w hP 0 cp_c0 lk_0 11 (Nat.le_of_ble_eq_true rfl) q298 cp_f11 rfl (tyX0_ok 11 (by decide)) rfl rfl dX0_redo_67 (fun σ_12 H locs e_13 hP => ?_)
    have h := st_k h e_13
    refine lv_aload_n hx hb dX0_redo_70 rfl (lv_at hl 0 rfl) ?_
    refine r_geti X hP 0 cp_c0 lk_0 11 (Nat.le_of_ble_eq_true rfl) q298 cp_f11 dX0_redo_71 ?_
    exact hret _ _ _ _ _ _ dX0_redo_74 rfl (Option.some.inj h) hP
  · have h := it_t h c_1
    refine lv_bipush (v := (-5 : Int32)) hx hb dX0_redo_7 (by decide) ?_
    exact hret _ _ _ _ _ _ dX0_redo_9 rfl (Option.some.inj h) hP
def ch_init (σ : ST) (t0 : Nat) (a1 : Int32) (a2 : Int32) (a3 : Int32) (a4 : Int32) : Option ST :=
  bo (ppv σ (some t0) 14 0 (.int a1)) (fun (σ_2 : ST) => bo (ppv σ_2 (some t0) 14 1 (.int a2)) (fun (σ_4 : ST) => bo (ppv σ_4 (some t0) 14 2 (.int a3)) (fun (σ_6 : ST) => bo (ppv σ_6 (some t0) 14 3 (.int a4)) (fun (σ_8 : ST) => some σ_8))))
abbrev rm_X15_init : Room := rmf 1 12
set_option maxHeartbeats 4000000 in
set_option maxRecDepth 100000 in
theorem mt_X15_init (l : Launch) (G : GT) (σ : ST) (t0 : Nat) (a1 : Int32) (a2 : Int32) (a3 : Int32) (a4 : Int32) {u : ST} (h : ch_init σ t0 a1 a2 a3 a4 = some u) : CV l cp_ft G yX15_init (ws_ yX15_init cX15_init 5 none) rm_X15_init 0 0 [.ref t0, .int a1, .int a2, .int a3, .int a4] σ u := by
  refine m_enterV (by decide) rfl (lv := [(0, .ref t0), (1, .int a1), (2, .int a2), (3, .int a3), (4, .int a4)]) rfl ?_
  intro p e s m args below meth c H locs ls Q X hnm hret hP hl
  have hx := X.1.1
  have hb := X.1.2.1
  have hown := X.1.2.2.2.1
  have hts := X.1.2.2.2.2
  unfold ch_init at h
  refine lv_aload_n hx hb dX15_init_0 rfl (lv_at hl 0 rfl) ?_
  refine W.objInit hx hb hown (hts _ q657) (hts _ q163) (hts _ q164) rfl (by rw [X.1.2.2.1]; exact hl.1) rfl dX15_init_1 (Nat.le_of_ble_eq_true rfl) (Nat.le_of_ble_eq_true rfl) ?_
  refine W.eq (g2 := F0 m 4 ls []) rfl ?_
  refine lv_aload_n hx hb dX15_init_4 rfl (lv_at hl 0 rfl) ?_
  refine lv_iload_n hx hb dX15_init_5 rfl (lv_at hl 1 rfl) ?_
  obtain ⟨σ_2, e_1, h⟩ := bo_ex h
  refine r_ppvF (r := (some t0)) X hP lk_14 0 (Nat.le_of_ble_eq_true rfl) e_1 q658 rfl hnm rfl (tyX15_ok 0 (by decide)) rfl rfl dX15_init_6 (fun H locs hP => ?_)
  refine lv_aload_n hx hb dX15_init_9 rfl (lv_at hl 0 rfl) ?_
  refine lv_iload_n hx hb dX15_init_10 rfl (lv_at hl 2 rfl) ?_
  obtain ⟨σ_4, e_3, h⟩ := bo_ex h
  refine r_ppvF (r := (some t0)) X hP lk_14 1 (Nat.le_of_ble_eq_true rfl) e_3 q660 rfl hnm rfl (tyX15_ok 1 (by decide)) rfl rfl dX15_init_11 (fun H locs hP => ?_)
  refine lv_aload_n hx hb dX15_init_14 rfl (lv_at hl 0 rfl) ?_
  refine lv_iload_n hx hb dX15_init_15 rfl (lv_at hl 3 rfl) ?_
  obtain ⟨σ_6, e_5, h⟩ := bo_ex h
  refine r_ppvF (r := (some t0)) X hP lk_14 2 (Nat.le_of_ble_eq_true rfl) e_5 q662 rfl hnm rfl (tyX15_ok 2 (by decide)) rfl rfl dX15_init_16 (fun H locs hP => ?_)
  refine lv_aload_n hx hb dX15_init_19 rfl (lv_at hl 0 rfl) ?_
  refine lv_iload hx hb dX15_init_20 (lv_at hl 4 rfl) ?_
  obtain ⟨σ_8, e_7, h⟩ := bo_ex h
  refine r_ppvF (r := (some t0)) X hP lk_14 3 (Nat.le_of_ble_eq_true rfl) e_7 q664 rfl hnm rfl (tyX15_ok 3 (by decide)) rfl rfl dX15_init_22 (fun H locs hP => ?_)
  exact hret _ _ _ _ _ dX15_init_25 (Option.some.inj h) hP
def cp_become_B25 (l1 : Int32) (l2 : Int32) (l3 : Int32) (l4 : Int32) (rc25 : Int32 → ST → Option (ST)) (w5 : Int32) (σ : ST) : Option (ST) :=
  (if (40 : Int32) ≤ w5 then some (σ) else ck w5 40 (ck (w5 - (1 : Int32)) 40 (bo (asr σ 0 9 (w5 - (1 : Int32)) (lR σ 0 9 w5) 14) (fun (σ_20 : ST) => (rc25 (w5 + (1 : Int32)) σ_20)))))
def cp_become (σ : ST) (a1 : Int32) (a2 : Int32) (a3 : Int32) (a4 : Int32) : Option (Int32 × ST) :=
  (if a3 = a4 then some (a3, σ) else st_ (pI σ 0 11 (0 : Int32)) (fun (σ_2 : ST) => bo (if (gI σ_2 0 10) = (40 : Int32) then bo (wl2 (cp_become_B25 a1 a2 a3 a4) FU (1 : Int32) σ_2) (fun (σ_24 : ST) => st_ (pI σ_24 0 10 ((gI σ_24 0 10) - (1 : Int32))) (fun (σ_27 : ST) => some (σ_27))) else some (σ_2)) (fun (σ_4 : ST) => st_ (aloc σ_4 14 [.int 0, .int 0, .int 0, .int 0] 4) (fun (σ_7 : ST) => bo (ch_init σ_7 (szo σ_4) a1 a2 a3 a4) (fun (σ_10 : ST) => ck (gI σ_4 0 10) 40 (bo (asr σ_10 0 9 (gI σ_4 0 10) (some (szo σ_4)) 14) (fun (σ_11 : ST) => st_ (pI σ_11 0 10 ((gI σ_11 0 10) + (1 : Int32))) (fun (σ_14 : ST) => bo (cp_setTo σ_14 a1 a2 a4) (fun (σ_17 : ST) => some (a3, σ_17))))))))))
abbrev rm_X0_become : Room := rmc 2 36 1 4
set_option maxHeartbeats 4000000 in
set_option maxRecDepth 100000 in
theorem mt_X0_become (l : Launch) (G : GT) (hal : G.2.2.2.2 = true) (σ : ST) (a1 : Int32) (a2 : Int32) (a3 : Int32) (a4 : Int32) {r : Int32} {u : ST} (h : cp_become σ a1 a2 a3 a4 = some (r, u)) : CI l cp_ft G yX0_become (ws_ yX0_become cX0_become 6 (some .int)) rm_X0_become 1 4 [.ref (G.2.2.1 0), .int a1, .int a2, .int a3, .int a4] σ (r, u) := by
  refine m_enterI (by decide) rfl (lv := [(0, .ref (G.2.2.1 0)), (1, .int a1), (2, .int a2), (3, .int a3), (4, .int a4)]) rfl ?_
  intro p e s m args below meth c H locs ls Q X hret hP hl
  have hx := X.1.1
  have hb := X.1.2.1
  have hown := X.1.2.2.2.1
  have hts := X.1.2.2.2.2
  unfold cp_become at h
  refine lv_iload_n hx hb dX0_become_0 rfl (lv_at hl 3 rfl) ?_
  refine lv_iload hx hb dX0_become_1 (lv_at hl 4 rfl) ?_
  refine lv_icmp_ne (tgt := 8) hx hb dX0_become_3 (by decide) (fun c_1 => ?_) (fun c_1 => ?_)
  · have h := it_f h c_1
    refine lv_aload_n hx hb dX0_become_8 rfl (lv_at hl 0 rfl) ?_
    refine lv_iconst (v := (0 : Int32)) hx hb dX0_become_9 (by decide) ?_
    refine r_puti X cp_w hP 0 cp_c0 lk_0 11 (Nat.le_of_ble_eq_true rfl) q298 cp_f11 rfl (tyX0_ok 11 (by decide)) rfl rfl dX0_become_10 (fun σ_2 H locs e_3 hP => ?_)
    have h := st_k h e_3
    refine lv_aload_n hx hb dX0_become_13 rfl (lv_at hl 0 rfl) ?_
    refine r_geti X hP 0 cp_c0 lk_0 10 (Nat.le_of_ble_eq_true rfl) q297 cp_f10 dX0_become_14 ?_
    refine lv_bipush (v := (40 : Int32)) hx hb dX0_become_17 (by decide) ?_
    obtain ⟨σ_4, h_5, h⟩ := bo_ex h
    have hJ_6 : ∀ (H : Heap) (locs : List Loc) (ls : Array Slot), PS cp_ft G s σ_4 H locs → lv_has ls 6 [(0, .ref (G.2.2.1 0)), (1, .int a1), (2, .int a2), (3, .int a3), (4, .int a4)] → W p l e rm_X0_become s m args below meth c H locs 0 0 Q (F0 m 64 ls []) := by
      intro H locs ls hP hl
      refine lv_aload_n hx hb dX0_become_64 rfl (lv_at hl 0 rfl) ?_
      refine r_geta X hP 0 cp_c0 lk_0 9 (Nat.le_of_ble_eq_true rfl) q296 cp_f9 dX0_become_65 ?_
      refine lv_aload_n hx hb dX0_become_68 rfl (lv_at hl 0 rfl) ?_
      refine r_geti X hP 0 cp_c0 lk_0 10 (Nat.le_of_ble_eq_true rfl) q297 cp_f10 dX0_become_69 ?_
      refine r_new X hal hP 14 lk_14 tyX15 tyX15_ok (fs := [.int 0, .int 0, .int 0, .int 0]) rfl q171 q653 q138 (Nat.le_of_ble_eq_true rfl) (Nat.le_of_ble_eq_true rfl) dX0_become_72 (fun σ_7 H e_8 hP => ?_)
      have h := st_k h e_8
      refine lv_dup hx hb dX0_become_75 rfl ?_
      refine lv_iload_n hx hb dX0_become_76 rfl (lv_at hl 1 rfl) ?_
      refine lv_iload_n hx hb dX0_become_77 rfl (lv_at hl 2 rfl) ?_
      refine lv_iload_n hx hb dX0_become_78 rfl (lv_at hl 3 rfl) ?_
      refine lv_iload hx hb dX0_become_79 (lv_at hl 4 rfl) ?_
      obtain ⟨σ_10, e_9, h⟩ := bo_ex h
      refine r_callv (r_runI (rest := [.ref (szo σ_4), .int (gI σ_4 0 10), .ref (G.2.2.1 4)]) X hP (mt_X15_init l G σ_7 (szo σ_4) a1 a2 a3 a4 e_9) (cwI 4 hts (lw_meth q656) rfl rfl rfl (hts _ q138) (hts _ q654) (hts _ q655) rfl cdX15_init ⟨Nat.le_of_ble_eq_true rfl, Nat.le_of_ble_eq_true rfl⟩) rfl hl.1 rfl (Nat.le_of_ble_eq_true rfl) dX0_become_81 ⟨Nat.le_of_ble_eq_true rfl, Nat.le_of_ble_eq_true rfl⟩) hP (fun H locs hP => ?_)
      have h_13 := ck_in h
      have h := ck_k h
      obtain ⟨σ_11, e_12, h⟩ := bo_ex h
      refine r_aast (t := 3) (v := (some (szo σ_4))) X cp_w hP 4 cp_c4 lk_14 rfl e_12 h_13 dX0_become_84 (fun H locs hP => ?_)
      refine lv_aload_n hx hb dX0_become_85 rfl (lv_at hl 0 rfl) ?_
      refine lv_dup hx hb dX0_become_86 rfl ?_
      refine r_geti X hP 0 cp_c0 lk_0 10 (Nat.le_of_ble_eq_true rfl) q297 cp_f10 dX0_become_87 ?_
      refine lv_iconst (v := (1 : Int32)) hx hb dX0_become_90 (by decide) ?_
      refine lv_iadd hx hb dX0_become_91 ?_
      refine r_puti X cp_w hP 0 cp_c0 lk_0 10 (Nat.le_of_ble_eq_true rfl) q297 cp_f10 rfl (tyX0_ok 10 (by decide)) rfl rfl dX0_become_92 (fun σ_14 H locs e_15 hP => ?_)
      have h := st_k h e_15
      refine lv_aload_n hx hb dX0_become_95 rfl (lv_at hl 0 rfl) ?_
      refine lv_iload_n hx hb dX0_become_96 rfl (lv_at hl 1 rfl) ?_
      refine lv_iload_n hx hb dX0_become_97 rfl (lv_at hl 2 rfl) ?_
      refine lv_iload hx hb dX0_become_98 (lv_at hl 4 rfl) ?_
      obtain ⟨σ_17, e_16, h⟩ := bo_ex h
      refine r_callv (r_runV (rest := []) X hP 0 cp_c0 lk_0 (mt_X0_setTo l G σ_14 a1 a2 a4 e_16) (cwV 3 hts (lw_V q637 q639 qs6 q110 q640) rfl rfl rfl ⟨rfl, cdX0_setTo⟩ ⟨Nat.le_of_ble_eq_true rfl, Nat.le_of_ble_eq_true rfl⟩) rfl hl.1 rfl (Nat.le_of_ble_eq_true rfl) dX0_become_100 ⟨Nat.le_of_ble_eq_true rfl, Nat.le_of_ble_eq_true rfl⟩) hP (fun H locs hP => ?_)
      refine lv_iload_n hx hb dX0_become_103 rfl (lv_at hl 3 rfl) ?_
      refine W.widen (k := 1) (n := 4) (Nat.le_of_ble_eq_true rfl) (Nat.le_of_ble_eq_true rfl) ?_
      exact hret _ _ _ _ _ _ dX0_become_104 rfl (Option.some.inj h) hP
    refine lv_icmp_ne (tgt := 64) hx hb dX0_become_19 (by decide) (fun c_18 => ?_) (fun c_18 => ?_)
    · have h_5 := it_f h_5 c_18
      obtain rfl := Option.some.inj h_5
      exact hJ_6 _ _ _ hP (lv_sub hl [0, 1, 2, 3, 4] rfl)
    · have h_5 := it_t h_5 c_18
      refine lv_iconst (v := (1 : Int32)) hx hb dX0_become_22 (by decide) ?_
      refine lv_istore (lv' := [(5, .int (1 : Int32)), (0, .ref (G.2.2.1 0)), (1, .int a1), (2, .int a2), (3, .int a3), (4, .int a4)]) hx hb dX0_become_23 hl (by decide) rfl (fun ls hl => ?_)
      obtain ⟨σ_24, h_25, h_5⟩ := bo_ex h_5
      have hE_26 : ∀ (H : Heap) (locs : List Loc) (ls : Array Slot), PS cp_ft G s σ_24 H locs → lv_has ls 6 [(0, .ref (G.2.2.1 0)), (1, .int a1), (2, .int a2), (3, .int a3), (4, .int a4)] → W p l e rm_X0_become s m args below meth c H locs 0 0 Q (F0 m 54 ls []) := by
        intro H locs ls hP hl
        refine lv_aload_n hx hb dX0_become_54 rfl (lv_at hl 0 rfl) ?_
        refine lv_dup hx hb dX0_become_55 rfl ?_
        refine r_geti X hP 0 cp_c0 lk_0 10 (Nat.le_of_ble_eq_true rfl) q297 cp_f10 dX0_become_56 ?_
        refine lv_iconst (v := (1 : Int32)) hx hb dX0_become_59 (by decide) ?_
        refine lv_isub hx hb dX0_become_60 ?_
        refine r_puti X cp_w hP 0 cp_c0 lk_0 10 (Nat.le_of_ble_eq_true rfl) q297 cp_f10 rfl (tyX0_ok 10 (by decide)) rfl rfl dX0_become_61 (fun σ_27 H locs e_28 hP => ?_)
        have h_5 := st_k h_5 e_28
        obtain rfl := Option.some.inj h_5
        exact hJ_6 _ _ _ hP (lv_sub hl [0, 1, 2, 3, 4] rfl)
      have hL_23 : ∀ (n : Nat) (w_29 : Int32) (σ_30 : ST) (H : Heap) (locs : List Loc) (ls : Array Slot), wl2 (cp_become_B25 a1 a2 a3 a4) n w_29 σ_30 = some σ_24 → PS cp_ft G s σ_30 H locs → lv_has ls 6 [(0, .ref (G.2.2.1 0)), (1, .int a1), (2, .int a2), (3, .int a3), (4, .int a4), (5, .int w_29)] → W p l e rm_X0_become s m args below meth c H locs 0 0 Q (F0 m 25 ls []) := by
        intro n
        induction n with
        | zero => intro w_29 σ_30 H locs ls h_31; cases h_31
        | succ n ih =>
          intro w_29 σ_30 H locs ls h_31 hP hl
          have h_31 : cp_become_B25 a1 a2 a3 a4 (wl2 (cp_become_B25 a1 a2 a3 a4) n) w_29 σ_30 = some _ := h_31
          generalize wl2 (cp_become_B25 a1 a2 a3 a4) n = rc_32 at h_31 ih
          unfold cp_become_B25 at h_31
          refine lv_iload hx hb dX0_become_25 (lv_at hl 5 rfl) ?_
          refine lv_bipush (v := (40 : Int32)) hx hb dX0_become_27 (by decide) ?_
          refine lv_icmp_ge (tgt := 54) hx hb dX0_become_29 (by decide) (fun c_33 => ?_) (fun c_33 => ?_)
          · have h_31 := it_t h_31 c_33
            obtain rfl := Option.some.inj h_31
            exact hE_26 _ _ _ hP (lv_sub hl [0, 1, 2, 3, 4] rfl)
          · have h_31 := it_f h_31 c_33
            refine lv_aload_n hx hb dX0_become_32 rfl (lv_at hl 0 rfl) ?_
            refine r_geta X hP 0 cp_c0 lk_0 9 (Nat.le_of_ble_eq_true rfl) q296 cp_f9 dX0_become_33 ?_
            refine lv_iload hx hb dX0_become_36 (lv_at hl 5 rfl) ?_
            refine lv_iconst (v := (1 : Int32)) hx hb dX0_become_38 (by decide) ?_
            refine lv_isub hx hb dX0_become_39 ?_
            refine lv_aload_n hx hb dX0_become_40 rfl (lv_at hl 0 rfl) ?_
            refine r_geta X hP 0 cp_c0 lk_0 9 (Nat.le_of_ble_eq_true rfl) q296 cp_f9 dX0_become_41 ?_
            refine lv_iload hx hb dX0_become_44 (lv_at hl 5 rfl) ?_
            refine r_aald (t := 3) X hP 4 cp_c4 rfl (ck_in h_31) dX0_become_46 ?_
            have h_31 := ck_k h_31
            have h_36 := ck_in h_31
            have h_31 := ck_k h_31
            obtain ⟨σ_34, e_35, h_31⟩ := bo_ex h_31
            refine r_aast (t := 3) (v := (lR σ_30 0 9 w_29)) X cp_w hP 4 cp_c4 lk_14 rfl e_35 h_36 dX0_become_47 (fun H locs hP => ?_)
            refine lv_iinc (v := (w_29 + (1 : Int32))) (lv' := [(5, .int (w_29 + (1 : Int32))), (0, .ref (G.2.2.1 0)), (1, .int a1), (2, .int a2), (3, .int a3), (4, .int a4)]) hx hb dX0_become_48 hl (k := 5) rfl rfl (by decide) rfl (fun ls hl => ?_)
            refine lv_goto (tgt := 25) hx hb dX0_become_51 (by decide) ?_
            exact ih _ _ _ _ _ h_31 hP (lv_sub hl [1, 2, 3, 4, 5, 0] rfl)
      exact hL_23 _ _ _ _ _ _ h_25 hP (lv_sub hl [1, 2, 3, 4, 5, 0] rfl)
  · have h := it_t h c_1
    refine lv_iload_n hx hb dX0_become_6 rfl (lv_at hl 3 rfl) ?_
    refine W.widen (k := 1) (n := 4) (Nat.le_of_ble_eq_true rfl) (Nat.le_of_ble_eq_true rfl) ?_
    exact hret _ _ _ _ _ _ dX0_become_7 rfl (Option.some.inj h) hP
def cp_mend (σ : ST) (a1 : Int32) (a2 : Int32) (a3 : Int32) : Option (Int32 × ST) :=
  (if a2 = (0 : Int32) then bo (cp_isPerson σ a1) (fun (r_3 : Int32) => (if r_3 = 0 then some ((-2000000000 : Int32), σ) else bo (cp_in a3 (0 : Int32) (9 : Int32)) (fun (r_6 : Int32) => (if r_6 = 0 then some ((-2000000000 : Int32), σ) else ck a1 10 (bo (pgi σ (lR σ 0 0 a1) 4 1) (fun (v_9 : Int32) => bo2 (cp_become σ (0 : Int32) a1 v_9 a3) (fun (r_11 : Int32) (σ_12 : ST) => some (r_11, σ_12)))))))) else (if a2 = (1 : Int32) then bo (cp_isPerson σ a1) (fun (r_15 : Int32) => (if r_15 = 0 then some ((-2000000000 : Int32), σ) else bo (cp_in a3 (0 : Int32) (9 : Int32)) (fun (r_18 : Int32) => (if r_18 = 0 then some ((-2000000000 : Int32), σ) else ck a1 10 (bo (pgi σ (lR σ 0 0 a1) 4 2) (fun (v_21 : Int32) => bo2 (cp_become σ (1 : Int32) a1 v_21 a3) (fun (r_23 : Int32) (σ_24 : ST) => some (r_23, σ_24)))))))) else (if a2 = (2 : Int32) then bo (cp_isPerson σ a1) (fun (r_27 : Int32) => (if r_27 = 0 then some ((-2000000000 : Int32), σ) else bo (cp_in a3 (0 : Int32) (99 : Int32)) (fun (r_30 : Int32) => (if r_30 = 0 then some ((-2000000000 : Int32), σ) else ck a1 10 (bo (pgi σ (lR σ 0 0 a1) 4 3) (fun (v_33 : Int32) => bo2 (cp_become σ (2 : Int32) a1 v_33 a3) (fun (r_35 : Int32) (σ_36 : ST) => some (r_35, σ_36)))))))) else (if a2 = (3 : Int32) then bo (cp_isThing σ a1) (fun (r_39 : Int32) => (if r_39 = 0 then some ((-2000000000 : Int32), σ) else bo (cp_in a3 (-99 : Int32) (99 : Int32)) (fun (r_42 : Int32) => (if r_42 = 0 then some ((-2000000000 : Int32), σ) else ck a1 6 (bo (pgi σ (lR σ 0 1 a1) 5 0) (fun (v_45 : Int32) => bo2 (cp_become σ (3 : Int32) a1 v_45 a3) (fun (r_47 : Int32) (σ_48 : ST) => some (r_47, σ_48)))))))) else (if a2 = (4 : Int32) then bo (cp_isThing σ a1) (fun (r_51 : Int32) => (if r_51 = 0 then some ((-2000000000 : Int32), σ) else bo (cp_in a3 (0 : Int32) (9 : Int32)) (fun (r_54 : Int32) => (if r_54 = 0 then some ((-2000000000 : Int32), σ) else ck a1 6 (bo (pgi σ (lR σ 0 1 a1) 5 1) (fun (v_57 : Int32) => bo2 (cp_become σ (4 : Int32) a1 v_57 a3) (fun (r_59 : Int32) (σ_60 : ST) => some (r_59, σ_60)))))))) else some ((-2000000000 : Int32), σ))))))
abbrev rm_X0_mend : Room := rmc 3 61 1 4
set_option maxHeartbeats 4000000 in
set_option maxRecDepth 100000 in
theorem mt_X0_mend (l : Launch) (G : GT) (hal : G.2.2.2.2 = true) (σ : ST) (a1 : Int32) (a2 : Int32) (a3 : Int32) {r : Int32} {u : ST} (h : cp_mend σ a1 a2 a3 = some (r, u)) : CI l cp_ft G yX0_mend (ws_ yX0_mend cX0_mend 4 (some .int)) rm_X0_mend 1 4 [.ref (G.2.2.1 0), .int a1, .int a2, .int a3] σ (r, u) := by
  refine m_enterI (by decide) rfl (lv := [(0, .ref (G.2.2.1 0)), (1, .int a1), (2, .int a2), (3, .int a3)]) rfl ?_
  intro p e s m args below meth c H locs ls Q X hret hP hl
  have hx := X.1.1
  have hb := X.1.2.1
  have hown := X.1.2.2.2.1
  have hts := X.1.2.2.2.2
  unfold cp_mend at h
  refine lv_iload_n hx hb dX0_mend_0 rfl (lv_at hl 2 rfl) ?_
  by_cases c_1 : a2 = (0 : Int32)
  · have h := it_t h c_1
    refine lv_tableIn (tgt := 36) hx hb dX0_mend_1 (by rw [c_1]; decide) (by rw [c_1]; decide) (by rw [c_1]; rfl) (by decide) ?_
    refine lv_aload_n hx hb dX0_mend_36 rfl (lv_at hl 0 rfl) ?_
    refine lv_iload_n hx hb dX0_mend_37 rfl (lv_at hl 1 rfl) ?_
    obtain ⟨r_3, e_2, h⟩ := bo_ex h
    refine r_calli (r_runV (rest := []) X hP 0 cp_c0 lk_0 (mt_X0_isPerson l G σ a1 e_2) (cwV 1 hts (lw_V q628 q630 qs5 q110 q631) rfl rfl rfl ⟨rfl, cdX0_isPerson⟩ ⟨Nat.le_of_ble_eq_true rfl, Nat.le_of_ble_eq_true rfl⟩) rfl hl.1 rfl (Nat.le_of_ble_eq_true rfl) dX0_mend_38 ⟨Nat.le_of_ble_eq_true rfl, Nat.le_of_ble_eq_true rfl⟩) hP (fun H locs hP => ?_)
    refine lv_if_eq (tgt := 73) hx hb dX0_mend_41 (by decide) (fun c_4 => ?_) (fun c_4 => ?_)
    · have h := it_t h c_4
      refine lv_ldc hx hb hown (hts _ q632) dX0_mend_73 ?_
      refine W.widen (k := 1) (n := 4) (Nat.le_of_ble_eq_true rfl) (Nat.le_of_ble_eq_true rfl) ?_
      exact hret _ _ _ _ _ _ dX0_mend_75 rfl (Option.some.inj h) hP
    · have h := it_f h c_4
      refine lv_iload_n hx hb dX0_mend_44 rfl (lv_at hl 3 rfl) ?_
      refine lv_iconst (v := (0 : Int32)) hx hb dX0_mend_45 (by decide) ?_
      refine lv_bipush (v := (9 : Int32)) hx hb dX0_mend_46 (by decide) ?_
      obtain ⟨r_6, e_5, h⟩ := bo_ex h
      refine r_calli (r_runS (rest := []) X hP (mt_X0_in l G σ a3 (0 : Int32) (9 : Int32) e_5) (va_cwS 3 hts (lw_S q396 q397 q110 q398) rfl rfl rfl cdX0_in ⟨Nat.le_of_ble_eq_true rfl, Nat.le_of_ble_eq_true rfl⟩) rfl hl.1 rfl (Nat.le_of_ble_eq_true rfl) dX0_mend_48 ⟨Nat.le_of_ble_eq_true rfl, Nat.le_of_ble_eq_true rfl⟩) hP (fun H locs hP => ?_)
      refine lv_if_eq (tgt := 73) hx hb dX0_mend_51 (by decide) (fun c_7 => ?_) (fun c_7 => ?_)
      · have h := it_t h c_7
        refine lv_ldc hx hb hown (hts _ q632) dX0_mend_73 ?_
        refine W.widen (k := 1) (n := 4) (Nat.le_of_ble_eq_true rfl) (Nat.le_of_ble_eq_true rfl) ?_
        exact hret _ _ _ _ _ _ dX0_mend_75 rfl (Option.some.inj h) hP
      · have h := it_f h c_7
        refine lv_aload_n hx hb dX0_mend_54 rfl (lv_at hl 0 rfl) ?_
        refine lv_iconst (v := (0 : Int32)) hx hb dX0_mend_55 (by decide) ?_
        refine lv_iload_n hx hb dX0_mend_56 rfl (lv_at hl 1 rfl) ?_
        refine lv_aload_n hx hb dX0_mend_57 rfl (lv_at hl 0 rfl) ?_
        refine r_geta X hP 0 cp_c0 lk_0 0 (Nat.le_of_ble_eq_true rfl) q280 cp_f0 dX0_mend_58 ?_
        refine lv_iload_n hx hb dX0_mend_61 rfl (lv_at hl 1 rfl) ?_
        refine r_aald (t := 0) X hP 1 cp_c1 rfl (ck_in h) dX0_mend_62 ?_
        have h := ck_k h
        obtain ⟨v_9, e_8, h⟩ := bo_ex h
        refine r_pgiN (r := (lR σ 0 0 a1)) X hP lk_4 1 (Nat.le_of_ble_eq_true rfl) e_8 q408 dX0_mend_63 ?_
        refine lv_iload_n hx hb dX0_mend_66 rfl (lv_at hl 3 rfl) ?_
        obtain ⟨r_11, σ_12, e_10, h⟩ := bo2_ex h
        refine r_calliM (r_runV (rest := []) X hP 0 cp_c0 lk_0 (mt_X0_become l G hal σ (0 : Int32) a1 v_9 a3 e_10) (cwV 4 hts (lw_V q649 q651 qs7 q110 q652) rfl rfl rfl ⟨rfl, cdX0_become⟩ ⟨Nat.le_of_ble_eq_true rfl, Nat.le_of_ble_eq_true rfl⟩) rfl hl.1 rfl (Nat.le_of_ble_eq_true rfl) dX0_mend_67 ⟨Nat.le_of_ble_eq_true rfl, Nat.le_of_ble_eq_true rfl⟩) hP (fun H locs hP => ?_)
        refine lv_goto (tgt := 75) hx hb dX0_mend_70 (by decide) ?_
        refine W.widen (k := 1) (n := 4) (Nat.le_of_ble_eq_true rfl) (Nat.le_of_ble_eq_true rfl) ?_
        exact hret _ _ _ _ _ _ dX0_mend_75 rfl (Option.some.inj h) hP
  · have h := it_f h c_1
    by_cases c_13 : a2 = (1 : Int32)
    · have h := it_t h c_13
      refine lv_tableIn (tgt := 76) hx hb dX0_mend_1 (by rw [c_13]; decide) (by rw [c_13]; decide) (by rw [c_13]; rfl) (by decide) ?_
      refine lv_aload_n hx hb dX0_mend_76 rfl (lv_at hl 0 rfl) ?_
      refine lv_iload_n hx hb dX0_mend_77 rfl (lv_at hl 1 rfl) ?_
      obtain ⟨r_15, e_14, h⟩ := bo_ex h
      refine r_calli (r_runV (rest := []) X hP 0 cp_c0 lk_0 (mt_X0_isPerson l G σ a1 e_14) (cwV 1 hts (lw_V q628 q630 qs5 q110 q631) rfl rfl rfl ⟨rfl, cdX0_isPerson⟩ ⟨Nat.le_of_ble_eq_true rfl, Nat.le_of_ble_eq_true rfl⟩) rfl hl.1 rfl (Nat.le_of_ble_eq_true rfl) dX0_mend_78 ⟨Nat.le_of_ble_eq_true rfl, Nat.le_of_ble_eq_true rfl⟩) hP (fun H locs hP => ?_)
      refine lv_if_eq (tgt := 113) hx hb dX0_mend_81 (by decide) (fun c_16 => ?_) (fun c_16 => ?_)
      · have h := it_t h c_16
        refine lv_ldc hx hb hown (hts _ q632) dX0_mend_113 ?_
        refine W.widen (k := 1) (n := 4) (Nat.le_of_ble_eq_true rfl) (Nat.le_of_ble_eq_true rfl) ?_
        exact hret _ _ _ _ _ _ dX0_mend_115 rfl (Option.some.inj h) hP
      · have h := it_f h c_16
        refine lv_iload_n hx hb dX0_mend_84 rfl (lv_at hl 3 rfl) ?_
        refine lv_iconst (v := (0 : Int32)) hx hb dX0_mend_85 (by decide) ?_
        refine lv_bipush (v := (9 : Int32)) hx hb dX0_mend_86 (by decide) ?_
        obtain ⟨r_18, e_17, h⟩ := bo_ex h
        refine r_calli (r_runS (rest := []) X hP (mt_X0_in l G σ a3 (0 : Int32) (9 : Int32) e_17) (va_cwS 3 hts (lw_S q396 q397 q110 q398) rfl rfl rfl cdX0_in ⟨Nat.le_of_ble_eq_true rfl, Nat.le_of_ble_eq_true rfl⟩) rfl hl.1 rfl (Nat.le_of_ble_eq_true rfl) dX0_mend_88 ⟨Nat.le_of_ble_eq_true rfl, Nat.le_of_ble_eq_true rfl⟩) hP (fun H locs hP => ?_)
        refine lv_if_eq (tgt := 113) hx hb dX0_mend_91 (by decide) (fun c_19 => ?_) (fun c_19 => ?_)
        · have h := it_t h c_19
          refine lv_ldc hx hb hown (hts _ q632) dX0_mend_113 ?_
          refine W.widen (k := 1) (n := 4) (Nat.le_of_ble_eq_true rfl) (Nat.le_of_ble_eq_true rfl) ?_
          exact hret _ _ _ _ _ _ dX0_mend_115 rfl (Option.some.inj h) hP
        · have h := it_f h c_19
          refine lv_aload_n hx hb dX0_mend_94 rfl (lv_at hl 0 rfl) ?_
          refine lv_iconst (v := (1 : Int32)) hx hb dX0_mend_95 (by decide) ?_
          refine lv_iload_n hx hb dX0_mend_96 rfl (lv_at hl 1 rfl) ?_
          refine lv_aload_n hx hb dX0_mend_97 rfl (lv_at hl 0 rfl) ?_
          refine r_geta X hP 0 cp_c0 lk_0 0 (Nat.le_of_ble_eq_true rfl) q280 cp_f0 dX0_mend_98 ?_
          refine lv_iload_n hx hb dX0_mend_101 rfl (lv_at hl 1 rfl) ?_
          refine r_aald (t := 0) X hP 1 cp_c1 rfl (ck_in h) dX0_mend_102 ?_
          have h := ck_k h
          obtain ⟨v_21, e_20, h⟩ := bo_ex h
          refine r_pgiN (r := (lR σ 0 0 a1)) X hP lk_4 2 (Nat.le_of_ble_eq_true rfl) e_20 q411 dX0_mend_103 ?_
          refine lv_iload_n hx hb dX0_mend_106 rfl (lv_at hl 3 rfl) ?_
          obtain ⟨r_23, σ_24, e_22, h⟩ := bo2_ex h
          refine r_calliM (r_runV (rest := []) X hP 0 cp_c0 lk_0 (mt_X0_become l G hal σ (1 : Int32) a1 v_21 a3 e_22) (cwV 4 hts (lw_V q649 q651 qs7 q110 q652) rfl rfl rfl ⟨rfl, cdX0_become⟩ ⟨Nat.le_of_ble_eq_true rfl, Nat.le_of_ble_eq_true rfl⟩) rfl hl.1 rfl (Nat.le_of_ble_eq_true rfl) dX0_mend_107 ⟨Nat.le_of_ble_eq_true rfl, Nat.le_of_ble_eq_true rfl⟩) hP (fun H locs hP => ?_)
          refine lv_goto (tgt := 115) hx hb dX0_mend_110 (by decide) ?_
          refine W.widen (k := 1) (n := 4) (Nat.le_of_ble_eq_true rfl) (Nat.le_of_ble_eq_true rfl) ?_
          exact hret _ _ _ _ _ _ dX0_mend_115 rfl (Option.some.inj h) hP
    · have h := it_f h c_13
      by_cases c_25 : a2 = (2 : Int32)
      · have h := it_t h c_25
        refine lv_tableIn (tgt := 116) hx hb dX0_mend_1 (by rw [c_25]; decide) (by rw [c_25]; decide) (by rw [c_25]; rfl) (by decide) ?_
        refine lv_aload_n hx hb dX0_mend_116 rfl (lv_at hl 0 rfl) ?_
        refine lv_iload_n hx hb dX0_mend_117 rfl (lv_at hl 1 rfl) ?_
        obtain ⟨r_27, e_26, h⟩ := bo_ex h
        refine r_calli (r_runV (rest := []) X hP 0 cp_c0 lk_0 (mt_X0_isPerson l G σ a1 e_26) (cwV 1 hts (lw_V q628 q630 qs5 q110 q631) rfl rfl rfl ⟨rfl, cdX0_isPerson⟩ ⟨Nat.le_of_ble_eq_true rfl, Nat.le_of_ble_eq_true rfl⟩) rfl hl.1 rfl (Nat.le_of_ble_eq_true rfl) dX0_mend_118 ⟨Nat.le_of_ble_eq_true rfl, Nat.le_of_ble_eq_true rfl⟩) hP (fun H locs hP => ?_)
        refine lv_if_eq (tgt := 153) hx hb dX0_mend_121 (by decide) (fun c_28 => ?_) (fun c_28 => ?_)
        · have h := it_t h c_28
          refine lv_ldc hx hb hown (hts _ q632) dX0_mend_153 ?_
          refine W.widen (k := 1) (n := 4) (Nat.le_of_ble_eq_true rfl) (Nat.le_of_ble_eq_true rfl) ?_
          exact hret _ _ _ _ _ _ dX0_mend_155 rfl (Option.some.inj h) hP
        · have h := it_f h c_28
          refine lv_iload_n hx hb dX0_mend_124 rfl (lv_at hl 3 rfl) ?_
          refine lv_iconst (v := (0 : Int32)) hx hb dX0_mend_125 (by decide) ?_
          refine lv_bipush (v := (99 : Int32)) hx hb dX0_mend_126 (by decide) ?_
          obtain ⟨r_30, e_29, h⟩ := bo_ex h
          refine r_calli (r_runS (rest := []) X hP (mt_X0_in l G σ a3 (0 : Int32) (99 : Int32) e_29) (va_cwS 3 hts (lw_S q396 q397 q110 q398) rfl rfl rfl cdX0_in ⟨Nat.le_of_ble_eq_true rfl, Nat.le_of_ble_eq_true rfl⟩) rfl hl.1 rfl (Nat.le_of_ble_eq_true rfl) dX0_mend_128 ⟨Nat.le_of_ble_eq_true rfl, Nat.le_of_ble_eq_true rfl⟩) hP (fun H locs hP => ?_)
          refine lv_if_eq (tgt := 153) hx hb dX0_mend_131 (by decide) (fun c_31 => ?_) (fun c_31 => ?_)
          · have h := it_t h c_31
            refine lv_ldc hx hb hown (hts _ q632) dX0_mend_153 ?_
            refine W.widen (k := 1) (n := 4) (Nat.le_of_ble_eq_true rfl) (Nat.le_of_ble_eq_true rfl) ?_
            exact hret _ _ _ _ _ _ dX0_mend_155 rfl (Option.some.inj h) hP
          · have h := it_f h c_31
            refine lv_aload_n hx hb dX0_mend_134 rfl (lv_at hl 0 rfl) ?_
            refine lv_iconst (v := (2 : Int32)) hx hb dX0_mend_135 (by decide) ?_
            refine lv_iload_n hx hb dX0_mend_136 rfl (lv_at hl 1 rfl) ?_
            refine lv_aload_n hx hb dX0_mend_137 rfl (lv_at hl 0 rfl) ?_
            refine r_geta X hP 0 cp_c0 lk_0 0 (Nat.le_of_ble_eq_true rfl) q280 cp_f0 dX0_mend_138 ?_
            refine lv_iload_n hx hb dX0_mend_141 rfl (lv_at hl 1 rfl) ?_
            refine r_aald (t := 0) X hP 1 cp_c1 rfl (ck_in h) dX0_mend_142 ?_
            have h := ck_k h
            obtain ⟨v_33, e_32, h⟩ := bo_ex h
            refine r_pgiN (r := (lR σ 0 0 a1)) X hP lk_4 3 (Nat.le_of_ble_eq_true rfl) e_32 q415 dX0_mend_143 ?_
            refine lv_iload_n hx hb dX0_mend_146 rfl (lv_at hl 3 rfl) ?_
            obtain ⟨r_35, σ_36, e_34, h⟩ := bo2_ex h
            refine r_calliM (r_runV (rest := []) X hP 0 cp_c0 lk_0 (mt_X0_become l G hal σ (2 : Int32) a1 v_33 a3 e_34) (cwV 4 hts (lw_V q649 q651 qs7 q110 q652) rfl rfl rfl ⟨rfl, cdX0_become⟩ ⟨Nat.le_of_ble_eq_true rfl, Nat.le_of_ble_eq_true rfl⟩) rfl hl.1 rfl (Nat.le_of_ble_eq_true rfl) dX0_mend_147 ⟨Nat.le_of_ble_eq_true rfl, Nat.le_of_ble_eq_true rfl⟩) hP (fun H locs hP => ?_)
            refine lv_goto (tgt := 155) hx hb dX0_mend_150 (by decide) ?_
            refine W.widen (k := 1) (n := 4) (Nat.le_of_ble_eq_true rfl) (Nat.le_of_ble_eq_true rfl) ?_
            exact hret _ _ _ _ _ _ dX0_mend_155 rfl (Option.some.inj h) hP
      · have h := it_f h c_25
        by_cases c_37 : a2 = (3 : Int32)
        · have h := it_t h c_37
          refine lv_tableIn (tgt := 156) hx hb dX0_mend_1 (by rw [c_37]; decide) (by rw [c_37]; decide) (by rw [c_37]; rfl) (by decide) ?_
          refine lv_aload_n hx hb dX0_mend_156 rfl (lv_at hl 0 rfl) ?_
          refine lv_iload_n hx hb dX0_mend_157 rfl (lv_at hl 1 rfl) ?_
          obtain ⟨r_39, e_38, h⟩ := bo_ex h
          refine r_calli (r_runV (rest := []) X hP 0 cp_c0 lk_0 (mt_X0_isThing l G σ a1 e_38) (cwV 1 hts (lw_V q452 q454 qs1 q110 q455) rfl rfl rfl ⟨rfl, cdX0_isThing⟩ ⟨Nat.le_of_ble_eq_true rfl, Nat.le_of_ble_eq_true rfl⟩) rfl hl.1 rfl (Nat.le_of_ble_eq_true rfl) dX0_mend_158 ⟨Nat.le_of_ble_eq_true rfl, Nat.le_of_ble_eq_true rfl⟩) hP (fun H locs hP => ?_)
          refine lv_if_eq (tgt := 194) hx hb dX0_mend_161 (by decide) (fun c_40 => ?_) (fun c_40 => ?_)
          · have h := it_t h c_40
            refine lv_ldc hx hb hown (hts _ q632) dX0_mend_194 ?_
            refine W.widen (k := 1) (n := 4) (Nat.le_of_ble_eq_true rfl) (Nat.le_of_ble_eq_true rfl) ?_
            exact hret _ _ _ _ _ _ dX0_mend_196 rfl (Option.some.inj h) hP
          · have h := it_f h c_40
            refine lv_iload_n hx hb dX0_mend_164 rfl (lv_at hl 3 rfl) ?_
            refine lv_bipush (v := (-99 : Int32)) hx hb dX0_mend_165 (by decide) ?_
            refine lv_bipush (v := (99 : Int32)) hx hb dX0_mend_167 (by decide) ?_
            obtain ⟨r_42, e_41, h⟩ := bo_ex h
            refine r_calli (r_runS (rest := []) X hP (mt_X0_in l G σ a3 (-99 : Int32) (99 : Int32) e_41) (va_cwS 3 hts (lw_S q396 q397 q110 q398) rfl rfl rfl cdX0_in ⟨Nat.le_of_ble_eq_true rfl, Nat.le_of_ble_eq_true rfl⟩) rfl hl.1 rfl (Nat.le_of_ble_eq_true rfl) dX0_mend_169 ⟨Nat.le_of_ble_eq_true rfl, Nat.le_of_ble_eq_true rfl⟩) hP (fun H locs hP => ?_)
            refine lv_if_eq (tgt := 194) hx hb dX0_mend_172 (by decide) (fun c_43 => ?_) (fun c_43 => ?_)
            · have h := it_t h c_43
              refine lv_ldc hx hb hown (hts _ q632) dX0_mend_194 ?_
              refine W.widen (k := 1) (n := 4) (Nat.le_of_ble_eq_true rfl) (Nat.le_of_ble_eq_true rfl) ?_
              exact hret _ _ _ _ _ _ dX0_mend_196 rfl (Option.some.inj h) hP
            · have h := it_f h c_43
              refine lv_aload_n hx hb dX0_mend_175 rfl (lv_at hl 0 rfl) ?_
              refine lv_iconst (v := (3 : Int32)) hx hb dX0_mend_176 (by decide) ?_
              refine lv_iload_n hx hb dX0_mend_177 rfl (lv_at hl 1 rfl) ?_
              refine lv_aload_n hx hb dX0_mend_178 rfl (lv_at hl 0 rfl) ?_
              refine r_geta X hP 0 cp_c0 lk_0 1 (Nat.le_of_ble_eq_true rfl) q282 cp_f1 dX0_mend_179 ?_
              refine lv_iload_n hx hb dX0_mend_182 rfl (lv_at hl 1 rfl) ?_
              refine r_aald (t := 1) X hP 2 cp_c2 rfl (ck_in h) dX0_mend_183 ?_
              have h := ck_k h
              obtain ⟨v_45, e_44, h⟩ := bo_ex h
              refine r_pgiN (r := (lR σ 0 1 a1)) X hP lk_5 0 (Nat.le_of_ble_eq_true rfl) e_44 q435 dX0_mend_184 ?_
              refine lv_iload_n hx hb dX0_mend_187 rfl (lv_at hl 3 rfl) ?_
              obtain ⟨r_47, σ_48, e_46, h⟩ := bo2_ex h
              refine r_calliM (r_runV (rest := []) X hP 0 cp_c0 lk_0 (mt_X0_become l G hal σ (3 : Int32) a1 v_45 a3 e_46) (cwV 4 hts (lw_V q649 q651 qs7 q110 q652) rfl rfl rfl ⟨rfl, cdX0_become⟩ ⟨Nat.le_of_ble_eq_true rfl, Nat.le_of_ble_eq_true rfl⟩) rfl hl.1 rfl (Nat.le_of_ble_eq_true rfl) dX0_mend_188 ⟨Nat.le_of_ble_eq_true rfl, Nat.le_of_ble_eq_true rfl⟩) hP (fun H locs hP => ?_)
              refine lv_goto (tgt := 196) hx hb dX0_mend_191 (by decide) ?_
              refine W.widen (k := 1) (n := 4) (Nat.le_of_ble_eq_true rfl) (Nat.le_of_ble_eq_true rfl) ?_
              exact hret _ _ _ _ _ _ dX0_mend_196 rfl (Option.some.inj h) hP
        · have h := it_f h c_37
          by_cases c_49 : a2 = (4 : Int32)
          · have h := it_t h c_49
            refine lv_tableIn (tgt := 197) hx hb dX0_mend_1 (by rw [c_49]; decide) (by rw [c_49]; decide) (by rw [c_49]; rfl) (by decide) ?_
            refine lv_aload_n hx hb dX0_mend_197 rfl (lv_at hl 0 rfl) ?_
            refine lv_iload_n hx hb dX0_mend_198 rfl (lv_at hl 1 rfl) ?_
            obtain ⟨r_51, e_50, h⟩ := bo_ex h
            refine r_calli (r_runV (rest := []) X hP 0 cp_c0 lk_0 (mt_X0_isThing l G σ a1 e_50) (cwV 1 hts (lw_V q452 q454 qs1 q110 q455) rfl rfl rfl ⟨rfl, cdX0_isThing⟩ ⟨Nat.le_of_ble_eq_true rfl, Nat.le_of_ble_eq_true rfl⟩) rfl hl.1 rfl (Nat.le_of_ble_eq_true rfl) dX0_mend_199 ⟨Nat.le_of_ble_eq_true rfl, Nat.le_of_ble_eq_true rfl⟩) hP (fun H locs hP => ?_)
            refine lv_if_eq (tgt := 234) hx hb dX0_mend_202 (by decide) (fun c_52 => ?_) (fun c_52 => ?_)
            · have h := it_t h c_52
              refine lv_ldc hx hb hown (hts _ q632) dX0_mend_234 ?_
              refine W.widen (k := 1) (n := 4) (Nat.le_of_ble_eq_true rfl) (Nat.le_of_ble_eq_true rfl) ?_
              exact hret _ _ _ _ _ _ dX0_mend_236 rfl (Option.some.inj h) hP
            · have h := it_f h c_52
              refine lv_iload_n hx hb dX0_mend_205 rfl (lv_at hl 3 rfl) ?_
              refine lv_iconst (v := (0 : Int32)) hx hb dX0_mend_206 (by decide) ?_
              refine lv_bipush (v := (9 : Int32)) hx hb dX0_mend_207 (by decide) ?_
              obtain ⟨r_54, e_53, h⟩ := bo_ex h
              refine r_calli (r_runS (rest := []) X hP (mt_X0_in l G σ a3 (0 : Int32) (9 : Int32) e_53) (va_cwS 3 hts (lw_S q396 q397 q110 q398) rfl rfl rfl cdX0_in ⟨Nat.le_of_ble_eq_true rfl, Nat.le_of_ble_eq_true rfl⟩) rfl hl.1 rfl (Nat.le_of_ble_eq_true rfl) dX0_mend_209 ⟨Nat.le_of_ble_eq_true rfl, Nat.le_of_ble_eq_true rfl⟩) hP (fun H locs hP => ?_)
              refine lv_if_eq (tgt := 234) hx hb dX0_mend_212 (by decide) (fun c_55 => ?_) (fun c_55 => ?_)
              · have h := it_t h c_55
                refine lv_ldc hx hb hown (hts _ q632) dX0_mend_234 ?_
                refine W.widen (k := 1) (n := 4) (Nat.le_of_ble_eq_true rfl) (Nat.le_of_ble_eq_true rfl) ?_
                exact hret _ _ _ _ _ _ dX0_mend_236 rfl (Option.some.inj h) hP
              · have h := it_f h c_55
                refine lv_aload_n hx hb dX0_mend_215 rfl (lv_at hl 0 rfl) ?_
                refine lv_iconst (v := (4 : Int32)) hx hb dX0_mend_216 (by decide) ?_
                refine lv_iload_n hx hb dX0_mend_217 rfl (lv_at hl 1 rfl) ?_
                refine lv_aload_n hx hb dX0_mend_218 rfl (lv_at hl 0 rfl) ?_
                refine r_geta X hP 0 cp_c0 lk_0 1 (Nat.le_of_ble_eq_true rfl) q282 cp_f1 dX0_mend_219 ?_
                refine lv_iload_n hx hb dX0_mend_222 rfl (lv_at hl 1 rfl) ?_
                refine r_aald (t := 1) X hP 2 cp_c2 rfl (ck_in h) dX0_mend_223 ?_
                have h := ck_k h
                obtain ⟨v_57, e_56, h⟩ := bo_ex h
                refine r_pgiN (r := (lR σ 0 1 a1)) X hP lk_5 1 (Nat.le_of_ble_eq_true rfl) e_56 q438 dX0_mend_224 ?_
                refine lv_iload_n hx hb dX0_mend_227 rfl (lv_at hl 3 rfl) ?_
                obtain ⟨r_59, σ_60, e_58, h⟩ := bo2_ex h
                refine r_calliM (r_runV (rest := []) X hP 0 cp_c0 lk_0 (mt_X0_become l G hal σ (4 : Int32) a1 v_57 a3 e_58) (cwV 4 hts (lw_V q649 q651 qs7 q110 q652) rfl rfl rfl ⟨rfl, cdX0_become⟩ ⟨Nat.le_of_ble_eq_true rfl, Nat.le_of_ble_eq_true rfl⟩) rfl hl.1 rfl (Nat.le_of_ble_eq_true rfl) dX0_mend_228 ⟨Nat.le_of_ble_eq_true rfl, Nat.le_of_ble_eq_true rfl⟩) hP (fun H locs hP => ?_)
                refine lv_goto (tgt := 236) hx hb dX0_mend_231 (by decide) ?_
                refine W.widen (k := 1) (n := 4) (Nat.le_of_ble_eq_true rfl) (Nat.le_of_ble_eq_true rfl) ?_
                exact hret _ _ _ _ _ _ dX0_mend_236 rfl (Option.some.inj h) hP
          · have h := it_f h c_49
            refine lv_tableOut (tgt := 237) hx hb dX0_mend_1 (by have n0 := lv_neT c_1 (a := 0) (by decide); have n1 := lv_neT c_13 (a := 1) (by decide); have n2 := lv_neT c_25 (a := 2) (by decide); have n3 := lv_neT c_37 (a := 3) (by decide); have n4 := lv_neT c_49 (a := 4) (by decide); omega) (by decide) ?_
            refine lv_ldc hx hb hown (hts _ q632) dX0_mend_237 ?_
            refine W.widen (k := 1) (n := 4) (Nat.le_of_ble_eq_true rfl) (Nat.le_of_ble_eq_true rfl) ?_
            exact hret _ _ _ _ _ _ dX0_mend_239 rfl (Option.some.inj h) hP
def cp_feed (σ : ST) (a1 : Int32) : Option (Int32 × ST) :=
  bo (cp_in a1 (0 : Int32) (255 : Int32)) (fun (r_2 : Int32) => (if r_2 = 0 then some ((-1 : Int32), σ) else (if (gI σ 0 13) = (120 : Int32) then some ((-3 : Int32), σ) else ck (gI σ 0 13) 120 (st_ (aI σ 0 12 (gI σ 0 13) ((((a1).toInt8.toInt32)).toInt8.toInt32)) (fun (σ_5 : ST) => st_ (pI σ_5 0 13 ((gI σ_5 0 13) + (1 : Int32))) (fun (σ_7 : ST) => some ((gI σ_7 0 13), σ_7)))))))
abbrev rm_X0_feed : Room := rmf 1 22
set_option maxHeartbeats 4000000 in
set_option maxRecDepth 100000 in
theorem mt_X0_feed (l : Launch) (G : GT) (σ : ST) (a1 : Int32) {r : Int32} {u : ST} (h : cp_feed σ a1 = some (r, u)) : CI l cp_ft G yX0_feed (ws_ yX0_feed cX0_feed 2 (some .int)) rm_X0_feed 0 0 [.ref (G.2.2.1 0), .int a1] σ (r, u) := by
  refine m_enterI (by decide) rfl (lv := [(0, .ref (G.2.2.1 0)), (1, .int a1)]) rfl ?_
  intro p e s m args below meth c H locs ls Q X hret hP hl
  have hx := X.1.1
  have hb := X.1.2.1
  have hown := X.1.2.2.2.1
  have hts := X.1.2.2.2.2
  unfold cp_feed at h
  refine lv_iload_n hx hb dX0_feed_0 rfl (lv_at hl 1 rfl) ?_
  refine lv_iconst (v := (0 : Int32)) hx hb dX0_feed_1 (by decide) ?_
  refine lv_sipush (v := (255 : Int32)) hx hb dX0_feed_2 (by decide) ?_
  obtain ⟨r_2, e_1, h⟩ := bo_ex h
  refine r_calli (r_runS (rest := []) X hP (mt_X0_in l G σ a1 (0 : Int32) (255 : Int32) e_1) (va_cwS 3 hts (lw_S q396 q397 q110 q398) rfl rfl rfl cdX0_in ⟨Nat.le_of_ble_eq_true rfl, Nat.le_of_ble_eq_true rfl⟩) rfl hl.1 rfl (Nat.le_of_ble_eq_true rfl) dX0_feed_5 ⟨Nat.le_refl _, Nat.le_refl _⟩) hP (fun H locs hP => ?_)
  refine lv_if_ne (tgt := 13) hx hb dX0_feed_8 (by decide) (fun c_3 => ?_) (fun c_3 => ?_)
  · have h := it_f h c_3
    refine lv_aload_n hx hb dX0_feed_13 rfl (lv_at hl 0 rfl) ?_
    refine r_geti X hP 0 cp_c0 lk_0 13 (Nat.le_of_ble_eq_true rfl) q302 cp_f13 dX0_feed_14 ?_
    refine lv_bipush (v := (120 : Int32)) hx hb dX0_feed_17 (by decide) ?_
    refine lv_icmp_ne (tgt := 25) hx hb dX0_feed_19 (by decide) (fun c_4 => ?_) (fun c_4 => ?_)
    · have h := it_f h c_4
      refine lv_aload_n hx hb dX0_feed_25 rfl (lv_at hl 0 rfl) ?_
      refine r_geta X hP 0 cp_c0 lk_0 12 (Nat.le_of_ble_eq_true rfl) q299 cp_f12 dX0_feed_26 ?_
      refine lv_aload_n hx hb dX0_feed_29 rfl (lv_at hl 0 rfl) ?_
      refine r_geti X hP 0 cp_c0 lk_0 13 (Nat.le_of_ble_eq_true rfl) q302 cp_f13 dX0_feed_30 ?_
      refine lv_iload_n hx hb dX0_feed_33 rfl (lv_at hl 1 rfl) ?_
      refine lv_i2b hx hb dX0_feed_34 rfl ?_
      refine r_bast X cp_w hP 5 cp_c5 (ck_in h) dX0_feed_35 (fun σ_5 H locs e_6 hP => ?_)
      have h := st_k (ck_k h) e_6
      refine lv_aload_n hx hb dX0_feed_36 rfl (lv_at hl 0 rfl) ?_
      refine lv_dup hx hb dX0_feed_37 rfl ?_
      refine r_geti X hP 0 cp_c0 lk_0 13 (Nat.le_of_ble_eq_true rfl) q302 cp_f13 dX0_feed_38 ?_
      refine lv_iconst (v := (1 : Int32)) hx hb dX0_feed_41 (by decide) ?_
      refine lv_iadd hx hb dX0_feed_42 ?_
      refine r_puti X cp_w hP 0 cp_c0 lk_0 13 (Nat.le_of_ble_eq_true rfl) q302 cp_f13 rfl (tyX0_ok 13 (by decide)) rfl rfl dX0_feed_43 (fun σ_7 H locs e_8 hP => ?_)
      have h := st_k h e_8
      refine lv_aload_n hx hb dX0_feed_46 rfl (lv_at hl 0 rfl) ?_
      refine r_geti X hP 0 cp_c0 lk_0 13 (Nat.le_of_ble_eq_true rfl) q302 cp_f13 dX0_feed_47 ?_
      exact hret _ _ _ _ _ _ dX0_feed_50 rfl (Option.some.inj h) hP
    · have h := it_t h c_4
      refine lv_bipush (v := (-3 : Int32)) hx hb dX0_feed_22 (by decide) ?_
      exact hret _ _ _ _ _ _ dX0_feed_24 rfl (Option.some.inj h) hP
  · have h := it_t h c_3
    refine lv_iconst (v := (-1 : Int32)) hx hb dX0_feed_11 (by decide) ?_
    exact hret _ _ _ _ _ _ dX0_feed_12 rfl (Option.some.inj h) hP
def cp_asTheyCame_B2 (rc2 : Int32 → ST → Option (ST)) (w1 : Int32) (σ : ST) : Option (ST) :=
  (if (6 : Int32) ≤ w1 then some (σ) else ck w1 6 (st_ (aI σ 0 16 w1 w1) (fun (σ_2 : ST) => (rc2 (w1 + (1 : Int32)) σ_2))))
def cp_asTheyCame (σ : ST)  : Option ST :=
  bo (wl2 (cp_asTheyCame_B2 ) FU (0 : Int32) σ) (fun (σ_5 : ST) => some σ_5)
abbrev rm_X0_asTheyCame : Room := rmf 0 0
set_option maxHeartbeats 4000000 in
set_option maxRecDepth 100000 in
theorem mt_X0_asTheyCame (l : Launch) (G : GT) (σ : ST)  {u : ST} (h : cp_asTheyCame σ = some u) : CV l cp_ft G yX0_asTheyCame (ws_ yX0_asTheyCame cX0_asTheyCame 2 none) rm_X0_asTheyCame 0 0 [.ref (G.2.2.1 0)] σ u := by
  refine m_enterV (by decide) rfl (lv := [(0, .ref (G.2.2.1 0))]) rfl ?_
  intro p e s m args below meth c H locs ls Q X hnm hret hP hl
  have hx := X.1.1
  have hb := X.1.2.1
  have hown := X.1.2.2.2.1
  have hts := X.1.2.2.2.2
  unfold cp_asTheyCame at h
  refine lv_iconst (v := (0 : Int32)) hx hb dX0_asTheyCame_0 (by decide) ?_
  refine lv_istore_n (lv' := [(1, .int (0 : Int32)), (0, .ref (G.2.2.1 0))]) hx hb dX0_asTheyCame_1 rfl hl (by decide) rfl (fun ls hl => ?_)
  obtain ⟨σ_5, h_6, h⟩ := bo_ex h
  have hE_7 : ∀ (H : Heap) (locs : List Loc) (ls : Array Slot), PS cp_ft G s σ_5 H locs → lv_has ls 2 [] → W p l e rm_X0_asTheyCame s m args below meth c H locs 0 0 Q (F0 m 21 ls []) := by
    intro H locs ls hP hl
    exact hret _ _ _ _ _ dX0_asTheyCame_21 (Option.some.inj h) hP
  have hL_4 : ∀ (n : Nat) (w_8 : Int32) (σ_9 : ST) (H : Heap) (locs : List Loc) (ls : Array Slot), wl2 (cp_asTheyCame_B2 ) n w_8 σ_9 = some σ_5 → PS cp_ft G s σ_9 H locs → lv_has ls 2 [(0, .ref (G.2.2.1 0)), (1, .int w_8)] → W p l e rm_X0_asTheyCame s m args below meth c H locs 0 0 Q (F0 m 2 ls []) := by
    intro n
    induction n with
    | zero => intro w_8 σ_9 H locs ls h_10; cases h_10
    | succ n ih =>
      intro w_8 σ_9 H locs ls h_10 hP hl
      have h_10 : cp_asTheyCame_B2  (wl2 (cp_asTheyCame_B2 ) n) w_8 σ_9 = some _ := h_10
      generalize wl2 (cp_asTheyCame_B2 ) n = rc_11 at h_10 ih
      unfold cp_asTheyCame_B2 at h_10
      refine lv_iload_n hx hb dX0_asTheyCame_2 rfl (lv_at hl 1 rfl) ?_
      refine lv_bipush (v := (6 : Int32)) hx hb dX0_asTheyCame_3 (by decide) ?_
      refine lv_icmp_ge (tgt := 21) hx hb dX0_asTheyCame_5 (by decide) (fun c_12 => ?_) (fun c_12 => ?_)
      · have h_10 := it_t h_10 c_12
        obtain rfl := Option.some.inj h_10
        exact hE_7 _ _ _ hP (lv_sub hl [] rfl)
      · have h_10 := it_f h_10 c_12
        refine lv_aload_n hx hb dX0_asTheyCame_8 rfl (lv_at hl 0 rfl) ?_
        refine r_geta X hP 0 cp_c0 lk_0 16 (Nat.le_of_ble_eq_true rfl) q305 cp_f16 dX0_asTheyCame_9 ?_
        refine lv_iload_n hx hb dX0_asTheyCame_12 rfl (lv_at hl 1 rfl) ?_
        refine lv_iload_n hx hb dX0_asTheyCame_13 rfl (lv_at hl 1 rfl) ?_
        refine r_iast X cp_w hP 6 cp_c6 (ck_in h_10) dX0_asTheyCame_14 (fun σ_13 H locs e_14 hP => ?_)
        have h_10 := st_k (ck_k h_10) e_14
        refine lv_iinc (v := (w_8 + (1 : Int32))) (lv' := [(1, .int (w_8 + (1 : Int32))), (0, .ref (G.2.2.1 0))]) hx hb dX0_asTheyCame_15 hl (k := 1) rfl rfl (by decide) rfl (fun ls hl => ?_)
        refine lv_goto (tgt := 2) hx hb dX0_asTheyCame_18 (by decide) ?_
        exact ih _ _ _ _ _ h_10 hP (lv_sub hl [1, 0] rfl)
  exact hL_4 _ _ _ _ _ _ h_6 hP (lv_sub hl [1, 0] rfl)
