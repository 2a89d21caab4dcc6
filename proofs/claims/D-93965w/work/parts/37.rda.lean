set_option maxRecDepth 100000
def s1_canEncode (a0 : Int32) : Option Int32 :=
  (if a0 < 0 then some (0 : Int32) else (if (255 : Int32) < a0 then some (0 : Int32) else some (1 : Int32)))
abbrev rm_J8_canEncode : Room := rmf 0 0
set_option maxHeartbeats 4000000 in
set_option maxRecDepth 100000 in
theorem mt_J8_canEncode (l : Launch) (G : GT) (σ : ST) (a0 : Int32) {r : Int32} (h : s1_canEncode a0 = some r) : CI l cp_ft G yJ8_canEncode (ws_ yJ8_canEncode cJ8_canEncode 1 (some .boolean)) rm_J8_canEncode 0 0 [.int a0] σ (r, σ) := by
  refine m_enterIF (by decide +kernel) rfl (lv := [(0, .int a0)]) rfl ?_
  intro p e s m args below meth c H locs ls Q X hret hP hl
  have hx := X.1.1
  have hb := X.1.2.1
  have hown := X.1.2.2.2.1
  have hts := X.1.2.2.2.2
  unfold s1_canEncode at h
  refine lv_iload_n hx hb dJ8_canEncode_0 rfl (lv_at hl 0 rfl) ?_
  refine lv_if_lt (tgt := 15) hx hb dJ8_canEncode_1 (by decide) (fun c_1 => ?_) (fun c_1 => ?_)
  · have h := it_t h c_1
    refine lv_iconst (v := (0 : Int32)) hx hb dJ8_canEncode_15 (by decide) ?_
    exact hret _ _ _ _ _ _ dJ8_canEncode_16 rfl (congrArg (fun z9 => (z9, σ)) (Option.some.inj h)) hP
  · have h := it_f h c_1
    refine lv_iload_n hx hb dJ8_canEncode_4 rfl (lv_at hl 0 rfl) ?_
    refine lv_sipush (v := (255 : Int32)) hx hb dJ8_canEncode_5 (by decide) ?_
    refine lv_icmp_gt (tgt := 15) hx hb dJ8_canEncode_8 (by decide) (fun c_2 => ?_) (fun c_2 => ?_)
    · have h := it_t h c_2
      refine lv_iconst (v := (0 : Int32)) hx hb dJ8_canEncode_15 (by decide) ?_
      exact hret _ _ _ _ _ _ dJ8_canEncode_16 rfl (congrArg (fun z9 => (z9, σ)) (Option.some.inj h)) hP
    · have h := it_f h c_2
      refine lv_iconst (v := (1 : Int32)) hx hb dJ8_canEncode_11 (by decide) ?_
      refine lv_goto (tgt := 16) hx hb dJ8_canEncode_12 (by decide) ?_
      exact hret _ _ _ _ _ _ dJ8_canEncode_16 rfl (congrArg (fun z9 => (z9, σ)) (Option.some.inj h)) hP
def sg_coder (k : Nat) (σ : ST)  : Option Int32 :=
  (if (1 : Int32) = 0 then some (1 : Int32) else some (0 : Int32))
abbrev rm_J4_coder : Room := rmf 0 0
set_option maxHeartbeats 4000000 in
set_option maxRecDepth 100000 in
theorem mt_J4_coder (l : Launch) (G : GT) (k : Nat) (hkk : k < 4) (hal : G.2.2.2.2 = true) (σ : ST)  {r : Int32} (h : sg_coder k σ = some r) : CI l cp_ft G yJ4_coder (ws_ yJ4_coder cJ4_coder 1 (some .byte)) rm_J4_coder 0 0 [.ref (G.2.2.1 (1000 + k))] σ (r, σ) := by
  refine m_enterIF (by decide +kernel) rfl (lv := [(0, .ref (G.2.2.1 (1000 + k)))]) rfl ?_
  intro p e s m args below meth c H locs ls Q X hret hP hl
  have hx := X.1.1
  have hb := X.1.2.1
  have hown := X.1.2.2.2.1
  have hts := X.1.2.2.2.2
  unfold sg_coder at h
  refine r_skz X hal hP q775 dJ4_coder_0 ?_
  refine lv_if_eq (tgt := 13) hx hb dJ4_coder_3 (by decide) (fun c_1 => ?_) (fun c_1 => ?_)
  · have h := it_t h c_1
    refine lv_iconst (v := (1 : Int32)) hx hb dJ4_coder_13 (by decide) ?_
    exact hret _ _ _ _ _ _ dJ4_coder_14 rfl (congrArg (fun z9 => (z9, σ)) (Option.some.inj h)) hP
  · have h := it_f h c_1
    refine lv_aload_n hx hb dJ4_coder_6 rfl (lv_at hl 0 rfl) ?_
    refine r_skc X hal hP hkk q2326 dJ4_coder_7 ?_
    refine lv_goto (tgt := 14) hx hb dJ4_coder_10 (by decide) ?_
    exact hret _ _ _ _ _ _ dJ4_coder_14 rfl (congrArg (fun z9 => (z9, σ)) (Option.some.inj h)) hP
def sg_isLatin1 (k : Nat) (σ : ST)  : Option Int32 :=
  (if (1 : Int32) = 0 then some (0 : Int32) else (if (0 : Int32) = 0 then some (1 : Int32) else some (0 : Int32)))
abbrev rm_J4_isLatin1 : Room := rmf 0 0
set_option maxHeartbeats 4000000 in
set_option maxRecDepth 100000 in
theorem mt_J4_isLatin1 (l : Launch) (G : GT) (k : Nat) (hkk : k < 4) (hal : G.2.2.2.2 = true) (σ : ST)  {r : Int32} (h : sg_isLatin1 k σ = some r) : CI l cp_ft G yJ4_isLatin1 (ws_ yJ4_isLatin1 cJ4_isLatin1 1 (some .boolean)) rm_J4_isLatin1 0 0 [.ref (G.2.2.1 (1000 + k))] σ (r, σ) := by
  refine m_enterIF (by decide +kernel) rfl (lv := [(0, .ref (G.2.2.1 (1000 + k)))]) rfl ?_
  intro p e s m args below meth c H locs ls Q X hret hP hl
  have hx := X.1.1
  have hb := X.1.2.1
  have hown := X.1.2.2.2.1
  have hts := X.1.2.2.2.2
  unfold sg_isLatin1 at h
  refine r_skz X hal hP q775 dJ4_isLatin1_0 ?_
  refine lv_if_eq (tgt := 17) hx hb dJ4_isLatin1_3 (by decide) (fun c_1 => ?_) (fun c_1 => ?_)
  · have h := it_t h c_1
    refine lv_iconst (v := (0 : Int32)) hx hb dJ4_isLatin1_17 (by decide) ?_
    exact hret _ _ _ _ _ _ dJ4_isLatin1_18 rfl (congrArg (fun z9 => (z9, σ)) (Option.some.inj h)) hP
  · have h := it_f h c_1
    refine lv_aload_n hx hb dJ4_isLatin1_6 rfl (lv_at hl 0 rfl) ?_
    refine r_skc X hal hP hkk q2326 dJ4_isLatin1_7 ?_
    refine lv_if_ne (tgt := 17) hx hb dJ4_isLatin1_10 (by decide) (fun c_2 => ?_) (fun c_2 => ?_)
    · have h := it_f h c_2
      refine lv_iconst (v := (0 : Int32)) hx hb dJ4_isLatin1_17 (by decide) ?_
      exact hret _ _ _ _ _ _ dJ4_isLatin1_18 rfl (congrArg (fun z9 => (z9, σ)) (Option.some.inj h)) hP
    · have h := it_t h c_2
      refine lv_iconst (v := (1 : Int32)) hx hb dJ4_isLatin1_13 (by decide) ?_
      refine lv_goto (tgt := 18) hx hb dJ4_isLatin1_14 (by decide) ?_
      exact hret _ _ _ _ _ _ dJ4_isLatin1_18 rfl (congrArg (fun z9 => (z9, σ)) (Option.some.inj h)) hP
def sg_length (k : Nat) (σ : ST)  : Option Int32 :=
  bo (sg_coder k σ) (fun (r_2 : Int32) => some ((skl k) >>> (r_2 &&& 31)))
abbrev rm_J4_length : Room := rmf 1 20
set_option maxHeartbeats 4000000 in
set_option maxRecDepth 100000 in
theorem mt_J4_length (l : Launch) (G : GT) (k : Nat) (hkk : k < 4) (hal : G.2.2.2.2 = true) (σ : ST)  {r : Int32} (h : sg_length k σ = some r) : CI l cp_ft G yJ4_length (ws_ yJ4_length cJ4_length 1 (some .int)) rm_J4_length 0 0 [.ref (G.2.2.1 (1000 + k))] σ (r, σ) := by
  refine m_enterIF (by decide +kernel) rfl (lv := [(0, .ref (G.2.2.1 (1000 + k)))]) rfl ?_
  intro p e s m args below meth c H locs ls Q X hret hP hl
  have hx := X.1.1
  have hb := X.1.2.1
  have hown := X.1.2.2.2.1
  have hts := X.1.2.2.2.2
  unfold sg_length at h
  refine lv_aload_n hx hb dJ4_length_0 rfl (lv_at hl 0 rfl) ?_
  refine r_skv X hal hP hkk q2327 dJ4_length_1 ?_
  refine r_skl X hal hP hkk dJ4_length_4 ?_
  refine lv_aload_n hx hb dJ4_length_5 rfl (lv_at hl 0 rfl) ?_
  obtain ⟨r_2, e_1, h⟩ := bo_ex h
  refine r_calli (r_runK (rest := [.int (skl k)]) X hal hP hkk (mt_J4_coder l G k hkk hal σ e_1) (cwV 0 hts (lw_V q781 q782 q783 q121 q784) rfl rfl rfl ⟨rfl, cdJ4_coder⟩ ⟨Nat.le_of_ble_eq_true rfl, Nat.le_of_ble_eq_true rfl⟩) rfl hl.1 rfl (Nat.le_of_ble_eq_true rfl) dJ4_length_6 ⟨Nat.le_refl _, Nat.le_refl _⟩) hP (fun H locs hP => ?_)
  refine lv_ishr hx hb dJ4_length_9 ?_
  exact hret _ _ _ _ _ _ dJ4_length_10 rfl (congrArg (fun z9 => (z9, σ)) (Option.some.inj h)) hP
def s1_indexOfChar_B7 (k : Nat) (σ : ST) (l3 : Int32) (l4 : Int32) (rc7 : Int32 → Option Int32) (w5 : Int32) : Option Int32 :=
  (if l3 ≤ w5 then some (-1 : Int32) else ck w5 (sk_len.getD k 0) ((if (skb k w5) = l4 then some w5 else (rc7 (w5 + (1 : Int32))))))
def s1_indexOfChar (k : Nat) (σ : ST) (a1 : Int32) (a2 : Int32) (a3 : Int32) : Option Int32 :=
  wl1 (s1_indexOfChar_B7 k σ a3 ((a1).toInt8.toInt32)) FU a2
abbrev rm_J8_indexOfChar : Room := rmf 0 0
set_option maxHeartbeats 4000000 in
set_option maxRecDepth 100000 in
theorem mt_J8_indexOfChar (l : Launch) (G : GT) (k : Nat) (hkk : k < 4) (hal : G.2.2.2.2 = true) (σ : ST) (a1 : Int32) (a2 : Int32) (a3 : Int32) {r : Int32} (h : s1_indexOfChar k σ a1 a2 a3 = some r) : CI l cp_ft G yJ8_indexOfChar (ws_ yJ8_indexOfChar cJ8_indexOfChar 6 (some .int)) rm_J8_indexOfChar 0 0 [.ref (G.2.2.1 (2000 + k)), .int a1, .int a2, .int a3] σ (r, σ) := by
  refine m_enterIF (by decide +kernel) rfl (lv := [(0, .ref (G.2.2.1 (2000 + k))), (1, .int a1), (2, .int a2), (3, .int a3)]) rfl ?_
  intro p e s m args below meth c H locs ls Q X hret hP hl
  have hx := X.1.1
  have hb := X.1.2.1
  have hown := X.1.2.2.2.1
  have hts := X.1.2.2.2.2
  unfold s1_indexOfChar at h
  refine lv_iload_n hx hb dJ8_indexOfChar_0 rfl (lv_at hl 1 rfl) ?_
  refine lv_i2b hx hb dJ8_indexOfChar_1 rfl ?_
  refine lv_istore (lv' := [(4, .int ((a1).toInt8.toInt32)), (0, .ref (G.2.2.1 (2000 + k))), (1, .int a1), (2, .int a2), (3, .int a3)]) hx hb dJ8_indexOfChar_2 hl (by decide) rfl (fun ls hl => ?_)
  refine lv_iload_n hx hb dJ8_indexOfChar_4 rfl (lv_at hl 3 rfl) ?_
  refine lv_istore (lv' := [(5, .int a2), (4, .int ((a1).toInt8.toInt32)), (0, .ref (G.2.2.1 (2000 + k))), (1, .int a1), (2, .int a2), (3, .int a3)]) hx hb dJ8_indexOfChar_5 hl (by decide) rfl (fun ls hl => ?_)
  have hL_3 : ∀ (n : Nat) (w_4 : Int32) (H : Heap) (locs : List Loc) (ls : Array Slot), wl1 (s1_indexOfChar_B7 k σ a3 ((a1).toInt8.toInt32)) n w_4 = some r → PS cp_ft G s σ H locs → lv_has ls 6 [(0, .ref (G.2.2.1 (2000 + k))), (3, .int a3), (4, .int ((a1).toInt8.toInt32)), (5, .int w_4)] → W p l e rm_J8_indexOfChar s m args below meth c H locs 0 0 Q (F0 m 7 ls []) := by
    intro n
    induction n with
    | zero => intro w_4 H locs ls h; cases h
    | succ n ih =>
      intro w_4 H locs ls h hP hl
      have h : s1_indexOfChar_B7 k σ a3 ((a1).toInt8.toInt32) (wl1 (s1_indexOfChar_B7 k σ a3 ((a1).toInt8.toInt32)) n) w_4 = some _ := h
      generalize wl1 (s1_indexOfChar_B7 k σ a3 ((a1).toInt8.toInt32)) n = rc_5 at h ih
      unfold s1_indexOfChar_B7 at h
      refine lv_iload hx hb dJ8_indexOfChar_7 (lv_at hl 3 rfl) ?_
      refine lv_iload_n hx hb dJ8_indexOfChar_9 rfl (lv_at hl 1 rfl) ?_
      refine lv_icmp_ge (tgt := 31) hx hb dJ8_indexOfChar_10 (by decide) (fun c_6 => ?_) (fun c_6 => ?_)
      · have h := it_t h c_6
        refine lv_iconst (v := (-1 : Int32)) hx hb dJ8_indexOfChar_31 (by decide) ?_
        exact hret _ _ _ _ _ _ dJ8_indexOfChar_32 rfl (congrArg (fun z9 => (z9, σ)) (Option.some.inj h)) hP
      · have h := it_f h c_6
        refine lv_aload_n hx hb dJ8_indexOfChar_13 rfl (lv_at hl 0 rfl) ?_
        refine lv_iload hx hb dJ8_indexOfChar_14 (lv_at hl 3 rfl) ?_
        refine r_skb X hal hP hkk (ck_in h) dJ8_indexOfChar_16 ?_
        have h := ck_k h
        refine lv_iload hx hb dJ8_indexOfChar_17 (lv_at hl 2 rfl) ?_
        refine lv_icmp_ne (tgt := 25) hx hb dJ8_indexOfChar_19 (by decide) (fun c_7 => ?_) (fun c_7 => ?_)
        · have h := it_f h c_7
          refine lv_iinc (v := (w_4 + (1 : Int32))) (lv' := [(5, .int (w_4 + (1 : Int32))), (0, .ref (G.2.2.1 (2000 + k))), (3, .int a3), (4, .int ((a1).toInt8.toInt32))]) hx hb dJ8_indexOfChar_25 hl (k := 3) rfl rfl (by decide) rfl (fun ls hl => ?_)
          refine lv_goto (tgt := 7) hx hb dJ8_indexOfChar_28 (by decide) ?_
          exact ih _ _ _ _ h hP (lv_sub hl [1, 2, 3, 0] rfl)
        · have h := it_t h c_7
          refine lv_iload hx hb dJ8_indexOfChar_22 (lv_at hl 3 rfl) ?_
          exact hret _ _ _ _ _ _ dJ8_indexOfChar_24 rfl (congrArg (fun z9 => (z9, σ)) (Option.some.inj h)) hP
  exact hL_3 _ _ _ _ _ h hP (lv_sub hl [2, 5, 1, 0] rfl)
def s1_indexOf (k : Nat) (σ : ST) (a1 : Int32) (a2 : Int32) (a3 : Int32) : Option Int32 :=
  bo (s1_canEncode a1) (fun (r_2 : Int32) => (if r_2 = 0 then some (-1 : Int32) else (if (if a2 < (0 : Int32) then (0 : Int32) else a2) < (if (skl k) < a3 then (skl k) else a3) then bo (s1_indexOfChar k σ a1 (if a2 < (0 : Int32) then (0 : Int32) else a2) (if (skl k) < a3 then (skl k) else a3)) (fun (r_6 : Int32) => some r_6) else some (-1 : Int32))))
abbrev rm_J8_indexOf : Room := rmf 1 25
set_option maxHeartbeats 4000000 in
set_option maxRecDepth 100000 in
theorem mt_J8_indexOf (l : Launch) (G : GT) (k : Nat) (hkk : k < 4) (hal : G.2.2.2.2 = true) (σ : ST) (a1 : Int32) (a2 : Int32) (a3 : Int32) {r : Int32} (h : s1_indexOf k σ a1 a2 a3 = some r) : CI l cp_ft G yJ8_indexOf (ws_ yJ8_indexOf cJ8_indexOf 4 (some .int)) rm_J8_indexOf 0 0 [.ref (G.2.2.1 (2000 + k)), .int a1, .int a2, .int a3] σ (r, σ) := by
  refine m_enterIF (by decide +kernel) rfl (lv := [(0, .ref (G.2.2.1 (2000 + k))), (1, .int a1), (2, .int a2), (3, .int a3)]) rfl ?_
  intro p e s m args below meth c H locs ls Q X hret hP hl
  have hx := X.1.1
  have hb := X.1.2.1
  have hown := X.1.2.2.2.1
  have hts := X.1.2.2.2.2
  unfold s1_indexOf at h
  refine lv_iload_n hx hb dJ8_indexOf_0 rfl (lv_at hl 1 rfl) ?_
  obtain ⟨r_2, e_1, h⟩ := bo_ex h
  refine r_calli (r_runS (rest := []) X hP (mt_J8_canEncode l G σ a1 e_1) (va_cwS 1 hts (lw_S q788 q789 q127 q790) rfl rfl rfl cdJ8_canEncode ⟨Nat.le_of_ble_eq_true rfl, Nat.le_of_ble_eq_true rfl⟩) rfl hl.1 rfl (Nat.le_of_ble_eq_true rfl) dJ8_indexOf_1 ⟨Nat.le_refl _, Nat.le_refl _⟩) hP (fun H locs hP => ?_)
  refine lv_if_ne (tgt := 9) hx hb dJ8_indexOf_4 (by decide) (fun c_3 => ?_) (fun c_3 => ?_)
  · have h := it_f h c_3
    refine lv_iload_n hx hb dJ8_indexOf_9 rfl (lv_at hl 2 rfl) ?_
    refine lv_iconst (v := (0 : Int32)) hx hb dJ8_indexOf_10 (by decide) ?_
    refine va_mmax (rest := []) hx hb (X.1.2.2.1.trans hl.1.symm) hown (hts _ q791) (hts _ q792) (hts _ q128) (hts _ q793) (Nat.le_of_ble_eq_true rfl) (Nat.le_of_ble_eq_true rfl) (Nat.le_of_ble_eq_true rfl) (Nat.le_of_ble_eq_true rfl) dJ8_indexOf_11 ?_
    refine lv_istore_n (lv' := [(2, .int (if a2 < (0 : Int32) then (0 : Int32) else a2)), (0, .ref (G.2.2.1 (2000 + k))), (1, .int a1), (3, .int a3)]) hx hb dJ8_indexOf_14 rfl hl (by decide) rfl (fun ls hl => ?_)
    refine lv_iload_n hx hb dJ8_indexOf_15 rfl (lv_at hl 3 rfl) ?_
    refine lv_aload_n hx hb dJ8_indexOf_16 rfl (lv_at hl 1 rfl) ?_
    refine r_skl X hal hP hkk dJ8_indexOf_17 ?_
    refine va_mmin (rest := []) hx hb (X.1.2.2.1.trans hl.1.symm) hown (hts _ q794) (hts _ q795) (hts _ q128) (hts _ q796) (Nat.le_of_ble_eq_true rfl) (Nat.le_of_ble_eq_true rfl) (Nat.le_of_ble_eq_true rfl) (Nat.le_of_ble_eq_true rfl) dJ8_indexOf_18 ?_
    refine lv_istore_n (lv' := [(3, .int (if (skl k) < a3 then (skl k) else a3)), (2, .int (if a2 < (0 : Int32) then (0 : Int32) else a2)), (0, .ref (G.2.2.1 (2000 + k))), (1, .int a1)]) hx hb dJ8_indexOf_21 rfl hl (by decide) rfl (fun ls hl => ?_)
    refine lv_iload_n hx hb dJ8_indexOf_22 rfl (lv_at hl 1 rfl) ?_
    refine lv_iload_n hx hb dJ8_indexOf_23 rfl (lv_at hl 0 rfl) ?_
    refine lv_icmp_lt (tgt := 29) hx hb dJ8_indexOf_24 (by decide) (fun c_4 => ?_) (fun c_4 => ?_)
    · have h := it_t h c_4
      refine lv_aload_n hx hb dJ8_indexOf_29 rfl (lv_at hl 2 rfl) ?_
      refine lv_iload_n hx hb dJ8_indexOf_30 rfl (lv_at hl 3 rfl) ?_
      refine lv_iload_n hx hb dJ8_indexOf_31 rfl (lv_at hl 1 rfl) ?_
      refine lv_iload_n hx hb dJ8_indexOf_32 rfl (lv_at hl 0 rfl) ?_
      obtain ⟨r_6, e_5, h⟩ := bo_ex h
      refine r_calli (r_runS (rest := []) X hP (mt_J8_indexOfChar l G k hkk hal σ a1 (if a2 < (0 : Int32) then (0 : Int32) else a2) (if (skl k) < a3 then (skl k) else a3) e_5) (va_cwS 4 hts (lw_S q797 q798 q127 q799) rfl rfl rfl cdJ8_indexOfChar ⟨Nat.le_of_ble_eq_true rfl, Nat.le_of_ble_eq_true rfl⟩) rfl hl.1 rfl (Nat.le_of_ble_eq_true rfl) dJ8_indexOf_33 ⟨Nat.le_refl _, Nat.le_refl _⟩) hP (fun H locs hP => ?_)
      exact hret _ _ _ _ _ _ dJ8_indexOf_36 rfl (congrArg (fun z9 => (z9, σ)) (Option.some.inj h)) hP
    · have h := it_f h c_4
      refine lv_iconst (v := (-1 : Int32)) hx hb dJ8_indexOf_27 (by decide) ?_
      exact hret _ _ _ _ _ _ dJ8_indexOf_28 rfl (congrArg (fun z9 => (z9, σ)) (Option.some.inj h)) hP
  · have h := it_t h c_3
    refine lv_iconst (v := (-1 : Int32)) hx hb dJ8_indexOf_7 (by decide) ?_
    exact hret _ _ _ _ _ _ dJ8_indexOf_8 rfl (congrArg (fun z9 => (z9, σ)) (Option.some.inj h)) hP
def sg_indexOf_2 (k : Nat) (σ : ST) (a1 : Int32) (a2 : Int32) : Option Int32 :=
  bo (sg_isLatin1 k σ) (fun (r_2 : Int32) => (if r_2 = 0 then bo (sg_length k σ) (fun (r_5 : Int32) => none) else bo (sg_length k σ) (fun (r_7 : Int32) => bo (s1_indexOf k σ a1 a2 r_7) (fun (r_9 : Int32) => some r_9))))
abbrev rm_J4_indexOf_2 : Room := rmf 2 48
set_option maxHeartbeats 4000000 in
set_option maxRecDepth 100000 in
theorem mt_J4_indexOf_2 (l : Launch) (G : GT) (k : Nat) (hkk : k < 4) (hal : G.2.2.2.2 = true) (σ : ST) (a1 : Int32) (a2 : Int32) {r : Int32} (h : sg_indexOf_2 k σ a1 a2 = some r) : CI l cp_ft G yJ4_indexOf_2 (ws_ yJ4_indexOf_2 cJ4_indexOf_2 3 (some .int)) rm_J4_indexOf_2 0 0 [.ref (G.2.2.1 (1000 + k)), .int a1, .int a2] σ (r, σ) := by
  refine m_enterIF (by decide +kernel) rfl (lv := [(0, .ref (G.2.2.1 (1000 + k))), (1, .int a1), (2, .int a2)]) rfl ?_
  intro p e s m args below meth c H locs ls Q X hret hP hl
  have hx := X.1.1
  have hb := X.1.2.1
  have hown := X.1.2.2.2.1
  have hts := X.1.2.2.2.2
  unfold sg_indexOf_2 at h
  refine lv_aload_n hx hb dJ4_indexOf_2_0 rfl (lv_at hl 0 rfl) ?_
  obtain ⟨r_2, e_1, h⟩ := bo_ex h
  refine r_calli (r_runK (rest := []) X hal hP hkk (mt_J4_isLatin1 l G k hkk hal σ e_1) (cwV 0 hts (lw_V q771 q772 q773 q121 q774) rfl rfl rfl ⟨rfl, cdJ4_isLatin1⟩ ⟨Nat.le_of_ble_eq_true rfl, Nat.le_of_ble_eq_true rfl⟩) rfl hl.1 rfl (Nat.le_of_ble_eq_true rfl) dJ4_indexOf_2_1 ⟨Nat.le_refl _, Nat.le_refl _⟩) hP (fun H locs hP => ?_)
  refine lv_if_eq (tgt := 23) hx hb dJ4_indexOf_2_4 (by decide) (fun c_3 => ?_) (fun c_3 => ?_)
  · have h := it_t h c_3
    refine lv_aload_n hx hb dJ4_indexOf_2_23 rfl (lv_at hl 0 rfl) ?_
    refine r_skv X hal hP hkk q2327 dJ4_indexOf_2_24 ?_
    refine lv_iload_n hx hb dJ4_indexOf_2_27 rfl (lv_at hl 1 rfl) ?_
    refine lv_iload_n hx hb dJ4_indexOf_2_28 rfl (lv_at hl 2 rfl) ?_
    refine lv_aload_n hx hb dJ4_indexOf_2_29 rfl (lv_at hl 0 rfl) ?_
    obtain ⟨r_5, e_4, h⟩ := bo_ex h
    refine r_calli (r_runK (rest := [.int a2, .int a1, .ref (G.2.2.1 (2000 + k))]) X hal hP hkk (mt_J4_length l G k hkk hal σ e_4) (cwV 0 hts (lw_V q777 q778 q779 q121 q780) rfl rfl rfl ⟨rfl, cdJ4_length⟩ ⟨Nat.le_of_ble_eq_true rfl, Nat.le_of_ble_eq_true rfl⟩) rfl hl.1 rfl (Nat.le_of_ble_eq_true rfl) dJ4_indexOf_2_30 ⟨Nat.le_refl _, Nat.le_refl _⟩) hP (fun H locs hP => ?_)
    cases h
  · have h := it_f h c_3
    refine lv_aload_n hx hb dJ4_indexOf_2_7 rfl (lv_at hl 0 rfl) ?_
    refine r_skv X hal hP hkk q2327 dJ4_indexOf_2_8 ?_
    refine lv_iload_n hx hb dJ4_indexOf_2_11 rfl (lv_at hl 1 rfl) ?_
    refine lv_iload_n hx hb dJ4_indexOf_2_12 rfl (lv_at hl 2 rfl) ?_
    refine lv_aload_n hx hb dJ4_indexOf_2_13 rfl (lv_at hl 0 rfl) ?_
    obtain ⟨r_7, e_6, h⟩ := bo_ex h
    refine r_calli (r_runK (rest := [.int a2, .int a1, .ref (G.2.2.1 (2000 + k))]) X hal hP hkk (mt_J4_length l G k hkk hal σ e_6) (cwV 0 hts (lw_V q777 q778 q779 q121 q780) rfl rfl rfl ⟨rfl, cdJ4_length⟩ ⟨Nat.le_of_ble_eq_true rfl, Nat.le_of_ble_eq_true rfl⟩) rfl hl.1 rfl (Nat.le_of_ble_eq_true rfl) dJ4_indexOf_2_14 ⟨Nat.le_refl _, Nat.le_refl _⟩) hP (fun H locs hP => ?_)
    obtain ⟨r_9, e_8, h⟩ := bo_ex h
    refine r_calli (r_runS (rest := []) X hP (mt_J8_indexOf l G k hkk hal σ a1 a2 r_7 e_8) (va_cwS 4 hts (lw_S q785 q786 q127 q787) rfl rfl rfl cdJ8_indexOf ⟨Nat.le_of_ble_eq_true rfl, Nat.le_of_ble_eq_true rfl⟩) rfl hl.1 rfl (Nat.le_of_ble_eq_true rfl) dJ4_indexOf_2_17 ⟨Nat.le_refl _, Nat.le_refl _⟩) hP (fun H locs hP => ?_)
    refine lv_goto (tgt := 36) hx hb dJ4_indexOf_2_20 (by decide) ?_
    exact hret _ _ _ _ _ _ dJ4_indexOf_2_36 rfl (congrArg (fun z9 => (z9, σ)) (Option.some.inj h)) hP
def sg_indexOf (k : Nat) (σ : ST) (a1 : Int32) : Option Int32 :=
  bo (sg_indexOf_2 k σ a1 (0 : Int32)) (fun (r_2 : Int32) => some r_2)
abbrev rm_J4_indexOf : Room := rmf 3 70
set_option maxHeartbeats 4000000 in
set_option maxRecDepth 100000 in
theorem mt_J4_indexOf (l : Launch) (G : GT) (k : Nat) (hkk : k < 4) (hal : G.2.2.2.2 = true) (σ : ST) (a1 : Int32) {r : Int32} (h : sg_indexOf k σ a1 = some r) : CI l cp_ft G yJ4_indexOf (ws_ yJ4_indexOf cJ4_indexOf 2 (some .int)) rm_J4_indexOf 0 0 [.ref (G.2.2.1 (1000 + k)), .int a1] σ (r, σ) := by
  refine m_enterIF (by decide +kernel) rfl (lv := [(0, .ref (G.2.2.1 (1000 + k))), (1, .int a1)]) rfl ?_
  intro p e s m args below meth c H locs ls Q X hret hP hl
  have hx := X.1.1
  have hb := X.1.2.1
  have hown := X.1.2.2.2.1
  have hts := X.1.2.2.2.2
  unfold sg_indexOf at h
  refine lv_aload_n hx hb dJ4_indexOf_0 rfl (lv_at hl 0 rfl) ?_
  refine lv_iload_n hx hb dJ4_indexOf_1 rfl (lv_at hl 1 rfl) ?_
  refine lv_iconst (v := (0 : Int32)) hx hb dJ4_indexOf_2 (by decide) ?_
  obtain ⟨r_2, e_1, h⟩ := bo_ex h
  refine r_calli (r_runK (rest := []) X hal hP hkk (mt_J4_indexOf_2 l G k hkk hal σ a1 (0 : Int32) e_1) (cwV 2 hts (lw_V q767 q768 q769 q121 q770) rfl rfl rfl ⟨rfl, cdJ4_indexOf_2⟩ ⟨Nat.le_of_ble_eq_true rfl, Nat.le_of_ble_eq_true rfl⟩) rfl hl.1 rfl (Nat.le_of_ble_eq_true rfl) dJ4_indexOf_3 ⟨Nat.le_refl _, Nat.le_refl _⟩) hP (fun H locs hP => ?_)
  exact hret _ _ _ _ _ _ dJ4_indexOf_6 rfl (congrArg (fun z9 => (z9, σ)) (Option.some.inj h)) hP
def no_init (σ : ST) (t0 : Nat) : Option Unit :=
  some ()
abbrev rm_X9_init : Room := rmf 1 12
set_option maxHeartbeats 4000000 in
set_option maxRecDepth 100000 in
theorem mt_X9_init (l : Launch) (G : GT) (σ : ST) (t0 : Nat) (h : no_init σ t0 = some ()) : CV l cp_ft G yX9_init (ws_ yX9_init cX9_init 1 none) rm_X9_init 0 0 [.ref t0] σ σ := by
  refine m_enterV (by decide) rfl (lv := [(0, .ref t0)]) rfl ?_
  intro p e s m args below meth c H locs ls Q X hnm hret hP hl
  have hx := X.1.1
  have hb := X.1.2.1
  have hown := X.1.2.2.2.1
  have hts := X.1.2.2.2.2
  unfold no_init at h
  refine lv_aload_n hx hb dX9_init_0 rfl (lv_at hl 0 rfl) ?_
  refine W.objInit hx hb hown (hts _ q857) (hts _ q163) (hts _ q164) rfl (by rw [X.1.2.2.1]; exact hl.1) rfl dX9_init_1 (Nat.le_of_ble_eq_true rfl) (Nat.le_of_ble_eq_true rfl) ?_
  refine W.eq (g2 := F0 m 4 ls []) rfl ?_
  exact hret _ _ _ _ _ dX9_init_4 rfl hP
def ln_init (σ : ST) (t0 : Nat) : Option Unit :=
  some ()
abbrev rm_X8_init : Room := rmf 1 12
set_option maxHeartbeats 4000000 in
set_option maxRecDepth 100000 in
theorem mt_X8_init (l : Launch) (G : GT) (σ : ST) (t0 : Nat) (h : ln_init σ t0 = some ()) : CV l cp_ft G yX8_init (ws_ yX8_init cX8_init 1 none) rm_X8_init 0 0 [.ref t0] σ σ := by
  refine m_enterV (by decide) rfl (lv := [(0, .ref t0)]) rfl ?_
  intro p e s m args below meth c H locs ls Q X hnm hret hP hl
  have hx := X.1.1
  have hb := X.1.2.1
  have hown := X.1.2.2.2.1
  have hts := X.1.2.2.2.2
  unfold ln_init at h
  refine lv_aload_n hx hb dX8_init_0 rfl (lv_at hl 0 rfl) ?_
  refine W.objInit hx hb hown (hts _ q716) (hts _ q163) (hts _ q164) rfl (by rw [X.1.2.2.1]; exact hl.1) rfl dX8_init_1 (Nat.le_of_ble_eq_true rfl) (Nat.le_of_ble_eq_true rfl) ?_
  refine W.eq (g2 := F0 m 4 ls []) rfl ?_
  exact hret _ _ _ _ _ dX8_init_4 rfl hP
def nm_init (σ : ST) (t0 : Nat) (a1 : Int32) : Option ST :=
  bo (no_init σ t0) (fun (_ : Unit) => bo (ppv σ (some t0) 9 0 (.int a1)) (fun (σ_3 : ST) => some σ_3))
abbrev rm_X10_init : Room := rmf 2 32
set_option maxHeartbeats 4000000 in
set_option maxRecDepth 100000 in
theorem mt_X10_init (l : Launch) (G : GT) (σ : ST) (t0 : Nat) (a1 : Int32) {u : ST} (h : nm_init σ t0 a1 = some u) : CV l cp_ft G yX10_init (ws_ yX10_init cX10_init 2 none) rm_X10_init 0 0 [.ref t0, .int a1] σ u := by
  refine m_enterV (by decide) rfl (lv := [(0, .ref t0), (1, .int a1)]) rfl ?_
  intro p e s m args below meth c H locs ls Q X hnm hret hP hl
  have hx := X.1.1
  have hb := X.1.2.1
  have hown := X.1.2.2.2.1
  have hts := X.1.2.2.2.2
  unfold nm_init at h
  refine lv_aload_n hx hb dX10_init_0 rfl (lv_at hl 0 rfl) ?_
  obtain ⟨_, e_1, h⟩ := bo_ex h
  refine r_callv (r_runIN (rest := []) X hP (mt_X9_init l G σ t0 e_1) ⟨va_cnB 0 hts (lw_meth q856) rfl rfl rfl (X.2.2.1 _ q854 rfl) (hts _ q132) cdX9_init ⟨Nat.le_of_ble_eq_true rfl, Nat.le_of_ble_eq_true rfl⟩, rfl, hts _ q855⟩ rfl hl.1 rfl (Nat.le_of_ble_eq_true rfl) dX10_init_1 ⟨Nat.le_refl _, Nat.le_refl _⟩) hP (fun H locs hP => ?_)
  refine lv_aload_n hx hb dX10_init_4 rfl (lv_at hl 0 rfl) ?_
  refine lv_iload_n hx hb dX10_init_5 rfl (lv_at hl 1 rfl) ?_
  obtain ⟨σ_3, e_2, h⟩ := bo_ex h
  refine r_ppvF (r := (some t0)) X hP lk_9 0 (Nat.le_of_ble_eq_true rfl) e_2 q858 rfl hnm rfl (tyX10_ok 0 (by decide)) rfl rfl dX10_init_6 (fun H locs hP => ?_)
  exact hret _ _ _ _ _ dX10_init_9 (Option.some.inj h) hP
def dn_init (σ : ST) (t0 : Nat) (a1 : Option Nat) : Option ST :=
  bo (no_init σ t0) (fun (_ : Unit) => bo (ppv σ (some t0) 10 0 (va_rf a1)) (fun (σ_3 : ST) => some σ_3))
abbrev rm_X11_init : Room := rmf 2 32
set_option maxHeartbeats 4000000 in
set_option maxRecDepth 100000 in
theorem mt_X11_init (l : Launch) (G : GT) (σ : ST) (t0 : Nat) (a1 : Option Nat) {u : ST} (h : dn_init σ t0 a1 = some u) : CV l cp_ft G yX11_init (ws_ yX11_init cX11_init 2 none) rm_X11_init 0 0 [.ref t0, va_rf a1] σ u := by
  refine m_enterV (by decide) (by cases a1 <;> rfl) (lv := [(0, .ref t0), (1, va_rf a1)]) (by cases a1 <;> rfl) ?_
  intro p e s m args below meth c H locs ls Q X hnm hret hP hl
  have hx := X.1.1
  have hb := X.1.2.1
  have hown := X.1.2.2.2.1
  have hts := X.1.2.2.2.2
  unfold dn_init at h
  refine lv_aload_n hx hb dX11_init_0 rfl (lv_at hl 0 rfl) ?_
  obtain ⟨_, e_1, h⟩ := bo_ex h
  refine r_callv (r_runIN (rest := []) X hP (mt_X9_init l G σ t0 e_1) ⟨va_cnB 0 hts (lw_meth q856) rfl rfl rfl (X.2.2.1 _ q875 rfl) (hts _ q132) cdX9_init ⟨Nat.le_of_ble_eq_true rfl, Nat.le_of_ble_eq_true rfl⟩, rfl, hts _ q855⟩ rfl hl.1 rfl (Nat.le_of_ble_eq_true rfl) dX11_init_1 ⟨Nat.le_refl _, Nat.le_refl _⟩) hP (fun H locs hP => ?_)
  refine lv_aload_n hx hb dX11_init_4 rfl (lv_at hl 0 rfl) ?_
  refine rr_aload_n hx hb dX11_init_5 rfl (lv_at hl 1 rfl) ?_
  obtain ⟨σ_3, e_2, h⟩ := bo_ex h
  refine r_ppvF (r := (some t0)) X hP lk_10 0 (Nat.le_of_ble_eq_true rfl) e_2 q876 rfl hnm rfl (tyX11_ok 0 (by decide)) (rr_nar _ a1) (rr_fit _ a1) dX11_init_6 (fun H locs hP => ?_)
  exact hret _ _ _ _ _ dX11_init_9 (Option.some.inj h) hP
def tn_init (σ : ST) (t0 : Nat) (a1 : Option Nat) : Option ST :=
  bo (no_init σ t0) (fun (_ : Unit) => bo (ppv σ (some t0) 11 0 (va_rf a1)) (fun (σ_3 : ST) => some σ_3))
abbrev rm_X12_init : Room := rmf 2 32
set_option maxHeartbeats 4000000 in
set_option maxRecDepth 100000 in
theorem mt_X12_init (l : Launch) (G : GT) (σ : ST) (t0 : Nat) (a1 : Option Nat) {u : ST} (h : tn_init σ t0 a1 = some u) : CV l cp_ft G yX12_init (ws_ yX12_init cX12_init 2 none) rm_X12_init 0 0 [.ref t0, va_rf a1] σ u := by
  refine m_enterV (by decide) (by cases a1 <;> rfl) (lv := [(0, .ref t0), (1, va_rf a1)]) (by cases a1 <;> rfl) ?_
  intro p e s m args below meth c H locs ls Q X hnm hret hP hl
  have hx := X.1.1
  have hb := X.1.2.1
  have hown := X.1.2.2.2.1
  have hts := X.1.2.2.2.2
  unfold tn_init at h
  refine lv_aload_n hx hb dX12_init_0 rfl (lv_at hl 0 rfl) ?_
  obtain ⟨_, e_1, h⟩ := bo_ex h
  refine r_callv (r_runIN (rest := []) X hP (mt_X9_init l G σ t0 e_1) ⟨va_cnB 0 hts (lw_meth q856) rfl rfl rfl (X.2.2.1 _ q885 rfl) (hts _ q132) cdX9_init ⟨Nat.le_of_ble_eq_true rfl, Nat.le_of_ble_eq_true rfl⟩, rfl, hts _ q855⟩ rfl hl.1 rfl (Nat.le_of_ble_eq_true rfl) dX12_init_1 ⟨Nat.le_refl _, Nat.le_refl _⟩) hP (fun H locs hP => ?_)
  refine lv_aload_n hx hb dX12_init_4 rfl (lv_at hl 0 rfl) ?_
  refine rr_aload_n hx hb dX12_init_5 rfl (lv_at hl 1 rfl) ?_
  obtain ⟨σ_3, e_2, h⟩ := bo_ex h
  refine r_ppvF (r := (some t0)) X hP lk_11 0 (Nat.le_of_ble_eq_true rfl) e_2 q886 rfl hnm rfl (tyX12_ok 0 (by decide)) (rr_nar _ a1) (rr_fit _ a1) dX12_init_6 (fun H locs hP => ?_)
  exact hret _ _ _ _ _ dX12_init_9 (Option.some.inj h) hP
def lf_init (σ : ST) (t0 : Nat) (a1 : Int32) : Option ST :=
  bo (no_init σ t0) (fun (_ : Unit) => bo (ppv σ (some t0) 12 0 (.int a1)) (fun (σ_3 : ST) => some σ_3))
abbrev rm_X13_init : Room := rmf 2 32
set_option maxHeartbeats 4000000 in
set_option maxRecDepth 100000 in
theorem mt_X13_init (l : Launch) (G : GT) (σ : ST) (t0 : Nat) (a1 : Int32) {u : ST} (h : lf_init σ t0 a1 = some u) : CV l cp_ft G yX13_init (ws_ yX13_init cX13_init 2 none) rm_X13_init 0 0 [.ref t0, .int a1] σ u := by
  refine m_enterV (by decide) rfl (lv := [(0, .ref t0), (1, .int a1)]) rfl ?_
  intro p e s m args below meth c H locs ls Q X hnm hret hP hl
  have hx := X.1.1
  have hb := X.1.2.1
  have hown := X.1.2.2.2.1
  have hts := X.1.2.2.2.2
  unfold lf_init at h
  refine lv_aload_n hx hb dX13_init_0 rfl (lv_at hl 0 rfl) ?_
  obtain ⟨_, e_1, h⟩ := bo_ex h
  refine r_callv (r_runIN (rest := []) X hP (mt_X9_init l G σ t0 e_1) ⟨va_cnB 0 hts (lw_meth q856) rfl rfl rfl (X.2.2.1 _ q896 rfl) (hts _ q132) cdX9_init ⟨Nat.le_of_ble_eq_true rfl, Nat.le_of_ble_eq_true rfl⟩, rfl, hts _ q855⟩ rfl hl.1 rfl (Nat.le_of_ble_eq_true rfl) dX13_init_1 ⟨Nat.le_refl _, Nat.le_refl _⟩) hP (fun H locs hP => ?_)
  refine lv_aload_n hx hb dX13_init_4 rfl (lv_at hl 0 rfl) ?_
  refine lv_iload_n hx hb dX13_init_5 rfl (lv_at hl 1 rfl) ?_
  obtain ⟨σ_3, e_2, h⟩ := bo_ex h
  refine r_ppvF (r := (some t0)) X hP lk_12 0 (Nat.le_of_ble_eq_true rfl) e_2 q897 rfl hnm rfl (tyX13_ok 0 (by decide)) rfl rfl dX13_init_6 (fun H locs hP => ?_)
  exact hret _ _ _ _ _ dX13_init_9 (Option.some.inj h) hP
def pr_init (σ : ST) (t0 : Nat) (a1 : Int32) (a2 : Option Nat) (a3 : Option Nat) : Option ST :=
  bo (no_init σ t0) (fun (_ : Unit) => bo (ppv σ (some t0) 13 0 (.int a1)) (fun (σ_3 : ST) => bo (ppv σ_3 (some t0) 13 1 (va_rf a2)) (fun (σ_5 : ST) => bo (ppv σ_5 (some t0) 13 2 (va_rf a3)) (fun (σ_7 : ST) => some σ_7))))
abbrev rm_X14_init : Room := rmf 2 32
set_option maxHeartbeats 4000000 in
set_option maxRecDepth 100000 in
theorem mt_X14_init (l : Launch) (G : GT) (σ : ST) (t0 : Nat) (a1 : Int32) (a2 : Option Nat) (a3 : Option Nat) {u : ST} (h : pr_init σ t0 a1 a2 a3 = some u) : CV l cp_ft G yX14_init (ws_ yX14_init cX14_init 4 none) rm_X14_init 0 0 [.ref t0, .int a1, va_rf a2, va_rf a3] σ u := by
  refine m_enterV (by decide) (by cases a2 <;> cases a3 <;> rfl) (lv := [(0, .ref t0), (1, .int a1), (2, va_rf a2), (3, va_rf a3)]) (by cases a2 <;> cases a3 <;> rfl) ?_
  intro p e s m args below meth c H locs ls Q X hnm hret hP hl
  have hx := X.1.1
  have hb := X.1.2.1
  have hown := X.1.2.2.2.1
  have hts := X.1.2.2.2.2
  unfold pr_init at h
  refine lv_aload_n hx hb dX14_init_0 rfl (lv_at hl 0 rfl) ?_
  obtain ⟨_, e_1, h⟩ := bo_ex h
  refine r_callv (r_runIN (rest := []) X hP (mt_X9_init l G σ t0 e_1) ⟨va_cnB 0 hts (lw_meth q856) rfl rfl rfl (X.2.2.1 _ q911 rfl) (hts _ q132) cdX9_init ⟨Nat.le_of_ble_eq_true rfl, Nat.le_of_ble_eq_true rfl⟩, rfl, hts _ q855⟩ rfl hl.1 rfl (Nat.le_of_ble_eq_true rfl) dX14_init_1 ⟨Nat.le_refl _, Nat.le_refl _⟩) hP (fun H locs hP => ?_)
  refine lv_aload_n hx hb dX14_init_4 rfl (lv_at hl 0 rfl) ?_
  refine lv_iload_n hx hb dX14_init_5 rfl (lv_at hl 1 rfl) ?_
  obtain ⟨σ_3, e_2, h⟩ := bo_ex h
  refine r_ppvF (r := (some t0)) X hP lk_13 0 (Nat.le_of_ble_eq_true rfl) e_2 q912 rfl hnm rfl (tyX14_ok 0 (by decide)) rfl rfl dX14_init_6 (fun H locs hP => ?_)
  refine lv_aload_n hx hb dX14_init_9 rfl (lv_at hl 0 rfl) ?_
  refine rr_aload_n hx hb dX14_init_10 rfl (lv_at hl 2 rfl) ?_
  obtain ⟨σ_5, e_4, h⟩ := bo_ex h
  refine r_ppvF (r := (some t0)) X hP lk_13 1 (Nat.le_of_ble_eq_true rfl) e_4 q913 rfl hnm rfl (tyX14_ok 1 (by decide)) (rr_nar _ a2) (rr_fit _ a2) dX14_init_11 (fun H locs hP => ?_)
  refine lv_aload_n hx hb dX14_init_14 rfl (lv_at hl 0 rfl) ?_
  refine rr_aload_n hx hb dX14_init_15 rfl (lv_at hl 3 rfl) ?_
  obtain ⟨σ_7, e_6, h⟩ := bo_ex h
  refine r_ppvF (r := (some t0)) X hP lk_13 2 (Nat.le_of_ble_eq_true rfl) e_6 q914 rfl hnm rfl (tyX14_ok 2 (by decide)) (rr_nar _ a3) (rr_fit _ a3) dX14_init_16 (fun H locs hP => ?_)
  exact hret _ _ _ _ _ dX14_init_19 (Option.some.inj h) hP
def rd_init (x0 : Nat) (σ : ST) (t0 : Nat) : Option ST :=
  bo (ppv σ (some t0) 7 3 (va_rf (some x0))) (fun (σ_2 : ST) => bo (ppv σ_2 (some t0) 7 1 (.int (-1 : Int32))) (fun (σ_4 : ST) => some σ_4))
abbrev rm_X7_init : Room := rmf 1 12
set_option maxHeartbeats 4000000 in
set_option maxRecDepth 100000 in
theorem mt_X7_init (l : Launch) (G : GT) (σ : ST) (t0 : Nat) {u : ST} (h : rd_init (G.2.2.1 0) σ t0 = some u) : CV l cp_ft G yX7_init (ws_ yX7_init cX7_init 2 none) rm_X7_init 0 0 [.ref t0, .ref (G.2.2.1 0)] σ u := by
  refine m_enterV (by decide) rfl (lv := [(0, .ref t0), (1, .ref (G.2.2.1 0))]) rfl ?_
  intro p e s m args below meth c H locs ls Q X hnm hret hP hl
  have hx := X.1.1
  have hb := X.1.2.1
  have hown := X.1.2.2.2.1
  have hts := X.1.2.2.2.2
  unfold rd_init at h
  refine lv_aload_n hx hb dX7_init_0 rfl (lv_at hl 0 rfl) ?_
  refine lv_aload_n hx hb dX7_init_1 rfl (lv_at hl 1 rfl) ?_
  obtain ⟨σ_2, e_1, h⟩ := bo_ex h
  refine r_ppvF (r := (some t0)) X hP lk_7 3 (Nat.le_of_ble_eq_true rfl) e_1 q693 rfl hnm rfl (tyX7_ok 3 (by decide)) (rr_nar _ (some (G.2.2.1 0))) (rr_fit _ (some (G.2.2.1 0))) dX7_init_2 (fun H locs hP => ?_)
  refine lv_aload_n hx hb dX7_init_5 rfl (lv_at hl 0 rfl) ?_
  refine W.objInit hx hb hown (hts _ q688) (hts _ q163) (hts _ q164) rfl (by rw [X.1.2.2.1]; exact hl.1) rfl dX7_init_6 (Nat.le_of_ble_eq_true rfl) (Nat.le_of_ble_eq_true rfl) ?_
  refine W.eq (g2 := F0 m 9 ls []) rfl ?_
  refine lv_aload_n hx hb dX7_init_9 rfl (lv_at hl 0 rfl) ?_
  refine lv_iconst (v := (-1 : Int32)) hx hb dX7_init_10 (by decide) ?_
  obtain ⟨σ_4, e_3, h⟩ := bo_ex h
  refine r_ppv (r := (some t0)) X hP lk_7 1 (Nat.le_of_ble_eq_true rfl) e_3 q690 rfl (tyX7_ok 1 (by decide)) rfl rfl dX7_init_11 (fun H locs hP => ?_)
  exact hret _ _ _ _ _ dX7_init_14 (Option.some.inj h) hP
def rd_here (x0 : Nat) (σ : ST) (t0 : Nat) : Option Int32 :=
  bo (pgi σ (some t0) 7 0) (fun (v_2 : Int32) => bo (pgr σ (some t0) 7 3) (fun (v_4 : Option Nat) => ez v_4 x0 ((if (gI σ 0 13) ≤ v_2 then some (-1 : Int32) else bo (pgr σ (some t0) 7 3) (fun (v_8 : Option Nat) => ez v_8 x0 (bo (pgi σ (some t0) 7 0) (fun (v_11 : Int32) => ck v_11 120 (some (lI σ 0 12 v_11)))))))))
abbrev rm_X7_here : Room := rmf 0 0
set_option maxHeartbeats 4000000 in
set_option maxRecDepth 100000 in
theorem mt_X7_here (l : Launch) (G : GT) (σ : ST) (t0 : Nat) {r : Int32} (h : rd_here (G.2.2.1 0) σ t0 = some r) : CI l cp_ft G yX7_here (ws_ yX7_here cX7_here 1 (some .int)) rm_X7_here 0 0 [.ref t0] σ (r, σ) := by
  refine m_enterI (by decide) rfl (lv := [(0, .ref t0)]) rfl ?_
  intro p e s m args below meth c H locs ls Q X hret hP hl
  have hx := X.1.1
  have hb := X.1.2.1
  have hown := X.1.2.2.2.1
  have hts := X.1.2.2.2.2
  unfold rd_here at h
  refine lv_aload_n hx hb dX7_here_0 rfl (lv_at hl 0 rfl) ?_
  obtain ⟨v_2, e_1, h⟩ := bo_ex h
  refine r_pgi (r := (some t0)) X hP lk_7 0 (Nat.le_of_ble_eq_true rfl) e_1 q689 dX7_here_1 ?_
  refine lv_aload_n hx hb dX7_here_4 rfl (lv_at hl 0 rfl) ?_
  obtain ⟨v_4, e_3, h⟩ := bo_ex h
  refine r_pgr (r := (some t0)) X hP lk_7 3 (Nat.le_of_ble_eq_true rfl) e_3 q693 dX7_here_5 ?_
  have hz_5 := ez_eq h
  have h := ez_k h
  rw [rr_known hz_5]
  refine r_getiN X hP 0 cp_c0 lk_0 13 (Nat.le_of_ble_eq_true rfl) q301 cp_f13 dX7_here_8 ?_
  refine lv_icmp_ge (tgt := 29) hx hb dX7_here_11 (by decide) (fun c_6 => ?_) (fun c_6 => ?_)
  · have h := it_t h c_6
    refine lv_iconst (v := (-1 : Int32)) hx hb dX7_here_29 (by decide) ?_
    exact hret _ _ _ _ _ _ dX7_here_30 rfl (congrArg (fun z9 => (z9, σ)) (Option.some.inj h)) hP
  · have h := it_f h c_6
    refine lv_aload_n hx hb dX7_here_14 rfl (lv_at hl 0 rfl) ?_
    obtain ⟨v_8, e_7, h⟩ := bo_ex h
    refine r_pgr (r := (some t0)) X hP lk_7 3 (Nat.le_of_ble_eq_true rfl) e_7 q693 dX7_here_15 ?_
    have hz_9 := ez_eq h
    have h := ez_k h
    rw [rr_known hz_9]
    refine r_getaN X hP 0 cp_c0 lk_0 12 (Nat.le_of_ble_eq_true rfl) q300 cp_f12 dX7_here_18 ?_
    refine lv_aload_n hx hb dX7_here_21 rfl (lv_at hl 0 rfl) ?_
    obtain ⟨v_11, e_10, h⟩ := bo_ex h
    refine r_pgi (r := (some t0)) X hP lk_7 0 (Nat.le_of_ble_eq_true rfl) e_10 q689 dX7_here_22 ?_
    refine r_bald X hP 5 cp_c5 (ck_in h) dX7_here_25 ?_
    have h := ck_k h
    refine lv_goto (tgt := 30) hx hb dX7_here_26 (by decide) ?_
    exact hret _ _ _ _ _ _ dX7_here_30 rfl (congrArg (fun z9 => (z9, σ)) (Option.some.inj h)) hP
def rd_isOne (x0 : Nat) (k : Nat) (σ : ST) (t0 : Nat) : Option Int32 :=
  bo (pis σ (some t0) 7) (fun (_ : Nat) => bo (rd_here x0 σ t0) (fun (r_4 : Int32) => (if r_4 < 0 then some (0 : Int32) else bo (pis σ (some t0) 7) (fun (_ : Nat) => bo (rd_here x0 σ t0) (fun (r_9 : Int32) => bo (sg_indexOf k σ r_9) (fun (r_11 : Int32) => (if r_11 < 0 then some (0 : Int32) else some (1 : Int32))))))))
abbrev rm_X7_isOne : Room := rmf 4 91
set_option maxHeartbeats 4000000 in
set_option maxRecDepth 100000 in
theorem mt_X7_isOne (l : Launch) (G : GT) (k : Nat) (hkk : k < 4) (hal : G.2.2.2.2 = true) (σ : ST) (t0 : Nat) {r : Int32} (h : rd_isOne (G.2.2.1 0) k σ t0 = some r) : CI l cp_ft G yX7_isOne (ws_ yX7_isOne cX7_isOne 2 (some .boolean)) rm_X7_isOne 0 0 [.ref t0, .ref (G.2.2.1 (1000 + k))] σ (r, σ) := by
  refine m_enterI (by decide) rfl (lv := [(0, .ref t0), (1, .ref (G.2.2.1 (1000 + k)))]) rfl ?_
  intro p e s m args below meth c H locs ls Q X hret hP hl
  have hx := X.1.1
  have hb := X.1.2.1
  have hown := X.1.2.2.2.1
  have hts := X.1.2.2.2.2
  unfold rd_isOne at h
  refine lv_aload_n hx hb dX7_isOne_0 rfl (lv_at hl 0 rfl) ?_
  obtain ⟨a_1, e_2, h⟩ := bo_ex h
  obtain ⟨r_4, e_3, h⟩ := bo_ex h
  refine r_calli (r_runP (rest := []) X hP (pis_self e_2) lk_7 (mt_X7_here l G σ t0 e_3) (cwV 0 hts (lw_V q754 q756 qs15 q125 q757) rfl rfl rfl ⟨rfl, cdX7_here⟩ ⟨Nat.le_of_ble_eq_true rfl, Nat.le_of_ble_eq_true rfl⟩) rfl hl.1 rfl (Nat.le_of_ble_eq_true rfl) dX7_isOne_1 ⟨Nat.le_refl _, Nat.le_refl _⟩) hP (fun H locs hP => ?_)
  refine lv_if_lt (tgt := 22) hx hb dX7_isOne_4 (by decide) (fun c_5 => ?_) (fun c_5 => ?_)
  · have h := it_t h c_5
    refine lv_iconst (v := (0 : Int32)) hx hb dX7_isOne_22 (by decide) ?_
    exact hret _ _ _ _ _ _ dX7_isOne_23 rfl (congrArg (fun z9 => (z9, σ)) (Option.some.inj h)) hP
  · have h := it_f h c_5
    refine lv_aload_n hx hb dX7_isOne_7 rfl (lv_at hl 1 rfl) ?_
    refine lv_aload_n hx hb dX7_isOne_8 rfl (lv_at hl 0 rfl) ?_
    obtain ⟨a_6, e_7, h⟩ := bo_ex h
    obtain ⟨r_9, e_8, h⟩ := bo_ex h
    refine r_calli (r_runP (rest := [.ref (G.2.2.1 (1000 + k))]) X hP (pis_self e_7) lk_7 (mt_X7_here l G σ t0 e_8) (cwV 0 hts (lw_V q754 q756 qs15 q125 q757) rfl rfl rfl ⟨rfl, cdX7_here⟩ ⟨Nat.le_of_ble_eq_true rfl, Nat.le_of_ble_eq_true rfl⟩) rfl hl.1 rfl (Nat.le_of_ble_eq_true rfl) dX7_isOne_9 ⟨Nat.le_refl _, Nat.le_refl _⟩) hP (fun H locs hP => ?_)
    obtain ⟨r_11, e_10, h⟩ := bo_ex h
    refine r_calli (r_runK (rest := []) X hal hP hkk (mt_J4_indexOf l G k hkk hal σ r_9 e_10) (cwV 1 hts (lw_V q763 q764 q765 q121 q766) rfl rfl rfl ⟨rfl, cdJ4_indexOf⟩ ⟨Nat.le_of_ble_eq_true rfl, Nat.le_of_ble_eq_true rfl⟩) rfl hl.1 rfl (Nat.le_of_ble_eq_true rfl) dX7_isOne_12 ⟨Nat.le_refl _, Nat.le_refl _⟩) hP (fun H locs hP => ?_)
    refine lv_if_lt (tgt := 22) hx hb dX7_isOne_15 (by decide) (fun c_12 => ?_) (fun c_12 => ?_)
    · have h := it_t h c_12
      refine lv_iconst (v := (0 : Int32)) hx hb dX7_isOne_22 (by decide) ?_
      exact hret _ _ _ _ _ _ dX7_isOne_23 rfl (congrArg (fun z9 => (z9, σ)) (Option.some.inj h)) hP
    · have h := it_f h c_12
      refine lv_iconst (v := (1 : Int32)) hx hb dX7_isOne_18 (by decide) ?_
      refine lv_goto (tgt := 23) hx hb dX7_isOne_19 (by decide) ?_
      exact hret _ _ _ _ _ _ dX7_isOne_23 rfl (congrArg (fun z9 => (z9, σ)) (Option.some.inj h)) hP
def rd_wrong (x0 : Nat) (σ : ST) (t0 : Nat) : Option (Option Nat × ST) :=
  bo (pgi σ (some t0) 7 1) (fun (v_2 : Int32) => (if 0 ≤ v_2 then some (none, σ) else bo (pgi σ (some t0) 7 0) (fun (v_5 : Int32) => bo (ppv σ (some t0) 7 1 (.int v_5)) (fun (σ_7 : ST) => some (none, σ_7)))))
abbrev rm_X7_wrong : Room := rmf 0 0
set_option maxHeartbeats 4000000 in
set_option maxRecDepth 100000 in
theorem mt_X7_wrong (l : Launch) (G : GT) (σ : ST) (t0 : Nat) {r : Option Nat} {u : ST} (h : rd_wrong (G.2.2.1 0) σ t0 = some (r, u)) : CR l cp_ft G yX7_wrong (ws_ yX7_wrong cX7_wrong 1 (some (.object "SpeaksInTurn$Node"))) rm_X7_wrong 0 0 [.ref t0] σ (r, u) := by
  refine m_enterR (Or.inl ⟨_, rfl⟩) (by decide) rfl (lv := [(0, .ref t0)]) rfl ?_
  intro p e s m args below meth c H locs ls Q X hret hP hl
  have hx := X.1.1
  have hb := X.1.2.1
  have hown := X.1.2.2.2.1
  have hts := X.1.2.2.2.2
  unfold rd_wrong at h
  refine lv_aload_n hx hb dX7_wrong_0 rfl (lv_at hl 0 rfl) ?_
  obtain ⟨v_2, e_1, h⟩ := bo_ex h
  refine r_pgi (r := (some t0)) X hP lk_7 1 (Nat.le_of_ble_eq_true rfl) e_1 q690 dX7_wrong_1 ?_
  refine lv_if_ge (tgt := 15) hx hb dX7_wrong_4 (by decide) (fun c_3 => ?_) (fun c_3 => ?_)
  · have h := it_t h c_3
    refine lv_null hx hb dX7_wrong_15 ?_
    exact hret _ _ _ _ _ _ dX7_wrong_16 (Option.some.inj h) hP
  · have h := it_f h c_3
    refine lv_aload_n hx hb dX7_wrong_7 rfl (lv_at hl 0 rfl) ?_
    refine lv_aload_n hx hb dX7_wrong_8 rfl (lv_at hl 0 rfl) ?_
    obtain ⟨v_5, e_4, h⟩ := bo_ex h
    refine r_pgi (r := (some t0)) X hP lk_7 0 (Nat.le_of_ble_eq_true rfl) e_4 q689 dX7_wrong_9 ?_
    obtain ⟨σ_7, e_6, h⟩ := bo_ex h
    refine r_ppv (r := (some t0)) X hP lk_7 1 (Nat.le_of_ble_eq_true rfl) e_6 q690 rfl (tyX7_ok 1 (by decide)) rfl rfl dX7_wrong_12 (fun H locs hP => ?_)
    refine lv_null hx hb dX7_wrong_15 ?_
    exact hret _ _ _ _ _ _ dX7_wrong_16 (Option.some.inj h) hP
def rd_opens (x0 : Nat) (σ : ST) (t0 : Nat) : Option (Int32 × ST) :=
  bo (pgi σ (some t0) 7 2) (fun (v_2 : Int32) => (if v_2 = (6 : Int32) then some ((0 : Int32), σ) else bo (pgi σ (some t0) 7 2) (fun (v_5 : Int32) => bo (ppv σ (some t0) 7 2 (.int (v_5 + (1 : Int32)))) (fun (σ_7 : ST) => bo (pgi σ_7 (some t0) 7 0) (fun (v_9 : Int32) => bo (ppv σ_7 (some t0) 7 0 (.int (v_9 + (1 : Int32)))) (fun (σ_11 : ST) => some ((1 : Int32), σ_11)))))))
abbrev rm_X7_opens : Room := rmf 0 0
set_option maxHeartbeats 4000000 in
set_option maxRecDepth 100000 in
theorem mt_X7_opens (l : Launch) (G : GT) (σ : ST) (t0 : Nat) {r : Int32} {u : ST} (h : rd_opens (G.2.2.1 0) σ t0 = some (r, u)) : CI l cp_ft G yX7_opens (ws_ yX7_opens cX7_opens 1 (some .boolean)) rm_X7_opens 0 0 [.ref t0] σ (r, u) := by
  refine m_enterI (by decide) rfl (lv := [(0, .ref t0)]) rfl ?_
  intro p e s m args below meth c H locs ls Q X hret hP hl
  have hx := X.1.1
  have hb := X.1.2.1
  have hown := X.1.2.2.2.1
  have hts := X.1.2.2.2.2
  unfold rd_opens at h
  refine lv_aload_n hx hb dX7_opens_0 rfl (lv_at hl 0 rfl) ?_
  obtain ⟨v_2, e_1, h⟩ := bo_ex h
  refine r_pgi (r := (some t0)) X hP lk_7 2 (Nat.le_of_ble_eq_true rfl) e_1 q692 dX7_opens_1 ?_
  refine lv_bipush (v := (6 : Int32)) hx hb dX7_opens_4 (by decide) ?_
  refine lv_icmp_ne (tgt := 11) hx hb dX7_opens_6 (by decide) (fun c_3 => ?_) (fun c_3 => ?_)
  · have h := it_f h c_3
    refine lv_aload_n hx hb dX7_opens_11 rfl (lv_at hl 0 rfl) ?_
    refine lv_dup hx hb dX7_opens_12 rfl ?_
    obtain ⟨v_5, e_4, h⟩ := bo_ex h
    refine r_pgi (r := (some t0)) X hP lk_7 2 (Nat.le_of_ble_eq_true rfl) e_4 q692 dX7_opens_13 ?_
    refine lv_iconst (v := (1 : Int32)) hx hb dX7_opens_16 (by decide) ?_
    refine lv_iadd hx hb dX7_opens_17 ?_
    obtain ⟨σ_7, e_6, h⟩ := bo_ex h
    refine r_ppv (r := (some t0)) X hP lk_7 2 (Nat.le_of_ble_eq_true rfl) e_6 q692 rfl (tyX7_ok 2 (by decide)) rfl rfl dX7_opens_18 (fun H locs hP => ?_)
    refine lv_aload_n hx hb dX7_opens_21 rfl (lv_at hl 0 rfl) ?_
    refine lv_dup hx hb dX7_opens_22 rfl ?_
    obtain ⟨v_9, e_8, h⟩ := bo_ex h
    refine r_pgi (r := (some t0)) X hP lk_7 0 (Nat.le_of_ble_eq_true rfl) e_8 q689 dX7_opens_23 ?_
    refine lv_iconst (v := (1 : Int32)) hx hb dX7_opens_26 (by decide) ?_
    refine lv_iadd hx hb dX7_opens_27 ?_
    obtain ⟨σ_11, e_10, h⟩ := bo_ex h
    refine r_ppv (r := (some t0)) X hP lk_7 0 (Nat.le_of_ble_eq_true rfl) e_10 q689 rfl (tyX7_ok 0 (by decide)) rfl rfl dX7_opens_28 (fun H locs hP => ?_)
    refine lv_iconst (v := (1 : Int32)) hx hb dX7_opens_31 (by decide) ?_
    exact hret _ _ _ _ _ _ dX7_opens_32 rfl (Option.some.inj h) hP
  · have h := it_t h c_3
    refine lv_iconst (v := (0 : Int32)) hx hb dX7_opens_9 (by decide) ?_
    exact hret _ _ _ _ _ _ dX7_opens_10 rfl (Option.some.inj h) hP
def rd_joined (x0 : Nat) (lim : Nat) (slim : Nat) (σ : ST) (t0 : Nat) (a1 : Int32) (a2 : Option Nat) (a3 : Option Nat) : Option (Option Nat × ST) :=
  bo (pgi σ (some t0) 7 1) (fun (v_2 : Int32) => (if v_2 < 0 then lm σ lim slim 1 3 (st_ (aloc σ 13 [.int 0, .null, .null] 3) (fun (σ_4 : ST) => lm σ_4 lim slim 0 0 (bo (pr_init σ_4 (szo σ) a1 a2 a3) (fun (σ_9 : ST) => lm σ_9 lim slim 0 0 (some ((some (szo σ)), σ_9)))))) else lm σ lim slim 0 0 (some (none, σ))))
set_option maxHeartbeats 4000000 in
set_option maxRecDepth 100000 in
theorem mt_X7_joined (l : Launch) (G : GT) (lim : Nat) (slim : Nat) (hal : G.2.2.2.2 = true) (σ : ST) (t0 : Nat) (a1 : Int32) (a2 : Option Nat) (a3 : Option Nat) {r : Option Nat} {u : ST} (h : rd_joined (G.2.2.1 0) lim slim σ t0 a1 a2 a3 = some (r, u)) : CR l cp_ft G yX7_joined (ws_ yX7_joined cX7_joined 4 (some (.object "SpeaksInTurn$Node"))) (rmc 3 55 (lim - szo σ) (slim - suo σ)) (lim - szo σ) (slim - suo σ) [.ref t0, .int a1, va_rf a2, va_rf a3] σ (r, u) := by
  refine m_enterRL hal (Or.inl ⟨_, rfl⟩) (by decide) (by cases a2 <;> cases a3 <;> rfl) (lv := [(0, .ref t0), (1, .int a1), (2, va_rf a2), (3, va_rf a3)]) (by cases a2 <;> cases a3 <;> rfl) ?_
  intro p e s m args below meth c H locs ls Q X h0 hret hP hl
  have hx := X.1.1
  have hb := X.1.2.1
  have hown := X.1.2.2.2.1
  have hts := X.1.2.2.2.2
  unfold rd_joined at h
  refine lv_aload_n hx hb dX7_joined_0 rfl (lv_at hl 0 rfl) ?_
  obtain ⟨v_2, e_1, h⟩ := bo_ex h
  refine r_pgi (r := (some t0)) X hP lk_7 1 (Nat.le_of_ble_eq_true rfl) e_1 q690 dX7_joined_1 ?_
  refine lv_if_lt (tgt := 11) hx hb dX7_joined_4 (by decide) (fun c_3 => ?_) (fun c_3 => ?_)
  · have h := it_t h c_3
    have hlm_6 := lm_in h
    have h := lm_k h
    refine r_newL X hal hP h0 13 hlm_6 rfl rfl lk_13 tyX14 tyX14_ok (fs := [.int 0, .null, .null]) rfl q906 q907 q137 dX7_joined_11 (fun σ_4 H e_5 hP => ?_)
    have h := st_k h e_5
    refine lv_dup hx hb dX7_joined_14 rfl ?_
    refine lv_iload_n hx hb dX7_joined_15 rfl (lv_at hl 1 rfl) ?_
    refine rr_aload_n hx hb dX7_joined_16 rfl (lv_at hl 2 rfl) ?_
    refine rr_aload_n hx hb dX7_joined_17 rfl (lv_at hl 3 rfl) ?_
    have hlm_7 := lm_in h
    have h := lm_k h
    obtain ⟨σ_9, e_8, h⟩ := bo_ex h
    refine W.le fun z1 z2 => ?_
    refine r_callvL hal h0 (r_runI (rest := [.ref (szo σ)]) X hP (mt_X14_init l G σ_4 (szo σ) a1 a2 a3 e_8) (cwI 3 hts (lw_meth q910) rfl rfl rfl (hts _ q137) (hts _ q908) (hts _ q909) rfl cdX14_init (rm_lx (f := 2) (lo := 32) (f2 := 3) (lo2 := 55) rfl rfl rfl rfl (by omega) (by omega))) rfl hl.1 rfl (Nat.le_of_ble_eq_true rfl) dX7_joined_18 (lim_h0 hal hP h0 z1 z2 hlm_7 rfl rfl)) hP (fun H locs hP => ?_)
    refine W.widen (k := lim - szo σ) (n := slim - suo σ) (Nat.sub_le_sub_right (lm_in h).1 _) (Nat.sub_le_sub_right (lm_in h).2 _) ?_
    have h := lm_k h
    exact hret _ _ _ _ _ _ dX7_joined_21 (Option.some.inj h) hP
  · have h := it_f h c_3
    refine lv_null hx hb dX7_joined_7 ?_
    refine lv_goto (tgt := 21) hx hb dX7_joined_8 (by decide) ?_
    refine W.widen (k := lim - szo σ) (n := slim - suo σ) (Nat.sub_le_sub_right (lm_in h).1 _) (Nat.sub_le_sub_right (lm_in h).2 _) ?_
    have h := lm_k h
    exact hret _ _ _ _ _ _ dX7_joined_21 (Option.some.inj h) hP
def rd_product_B5 (x0 : Nat) (lim : Nat) (slim : Nat) (fo : ST → Nat → Option (Option Nat × ST)) (l0 : Nat) (rc5 : Option Nat → ST → Option (Option Nat × ST)) (w1 : Option Nat) (σ : ST) : Option (Option Nat × ST) :=
  bo (pgi σ (some l0) 7 1) (fun (v_8 : Int32) => (if 0 ≤ v_8 then some (w1, σ) else lm σ lim slim 0 0 (bo (pis σ (some l0) 7) (fun (_ : Nat) => bo (rd_isOne x0 1 σ l0) (fun (r_14 : Int32) => (if r_14 = 0 then some (w1, σ) else lm σ lim slim 0 0 (bo (pis σ (some l0) 7) (fun (_ : Nat) => bo (rd_here x0 σ l0) (fun (r_20 : Int32) => bo (pgi σ (some l0) 7 0) (fun (v_22 : Int32) => bo (ppv σ (some l0) 7 0 (.int (v_22 + (1 : Int32)))) (fun (σ_24 : ST) => lm σ_24 lim slim 0 0 (bo (pis σ_24 (some l0) 7) (fun (_ : Nat) => bo2 (fo σ_24 l0) (fun (r_29 : Option Nat) (σ_30 : ST) => lm σ_30 lim slim 0 0 (bo (pis σ_30 (some l0) 7) (fun (_ : Nat) => bo2 (rd_joined x0 lim slim σ_30 l0 r_20 w1 r_29) (fun (r_35 : Option Nat) (σ_36 : ST) => (rc5 r_35 σ_36))))))))))))))))))
def rd_product (x0 : Nat) (lim : Nat) (slim : Nat) (fo : ST → Nat → Option (Option Nat × ST)) (σ : ST) (t0 : Nat) : Option (Option Nat × ST) :=
  lm σ lim slim 0 0 (bo (pis σ (some t0) 7) (fun (_ : Nat) => bo2 (fo σ t0) (fun (r_5 : Option Nat) (σ_6 : ST) => bo2 (wl2 (rd_product_B5 x0 lim slim fo t0) FU r_5 σ_6) (fun (o_38 : Option Nat) (σ_39 : ST) => lm σ_39 lim slim 0 0 (some (o_38, σ_39))))))
set_option maxHeartbeats 4000000 in
set_option maxRecDepth 100000 in
theorem mt_X7_product (l : Launch) (G : GT) {f lo : Nat} (lim : Nat) (slim : Nat) (fo : ST → Nat → Option (Option Nat × ST)) (hfo : ∀ (σ : ST) (t0 : Nat) {r : Option Nat} {u : ST}, fo σ t0 = some (r, u) → CR l cp_ft G yX7_operand (ws_ yX7_operand cX7_operand 4 (some (.object "SpeaksInTurn$Node"))) (rmc f lo (lim - szo σ) (slim - suo σ)) (lim - szo σ) (slim - suo σ) [.ref t0] σ (r, u)) (hal : G.2.2.2.2 = true) (σ : ST) (t0 : Nat) {r : Option Nat} {u : ST} (h : rd_product (G.2.2.1 0) lim slim fo σ t0 = some (r, u)) : CR l cp_ft G yX7_product (ws_ yX7_product cX7_product 3 (some (.object "SpeaksInTurn$Node"))) (rmc (f + 5) (lo + 112) (lim - szo σ) (slim - suo σ)) (lim - szo σ) (slim - suo σ) [.ref t0] σ (r, u) := by
  refine m_enterRL hal (Or.inl ⟨_, rfl⟩) (by decide) rfl (lv := [(0, .ref t0)]) rfl ?_
  intro p e s m args below meth c H locs ls Q X h0 hret hP hl
  have hx := X.1.1
  have hb := X.1.2.1
  have hown := X.1.2.2.2.1
  have hts := X.1.2.2.2.2
  unfold rd_product at h
  refine lv_aload_n hx hb dX7_product_0 rfl (lv_at hl 0 rfl) ?_
  have hlm_1 := lm_in h
  have h := lm_k h
  obtain ⟨a_2, e_3, h⟩ := bo_ex h
  obtain ⟨r_5, σ_6, e_4, h⟩ := bo2_ex h
  refine W.le fun z1 z2 => ?_
  refine r_callrL hal h0 (r_runP (rest := []) X hP (pis_self e_3) lk_7 (hfo σ t0 e_4) (cwV 0 hts (lw_V q750 q752 qs14 q125 q753) rfl rfl rfl ⟨rfl, cdX7_operand⟩ (rm_lx (f := f + 0) (lo := lo + 0) (f2 := f + 5) (lo2 := lo + 112) rfl rfl rfl rfl (by omega) (by omega))) rfl hl.1 rfl (Nat.le_of_ble_eq_true rfl) dX7_product_1 (lim_hf hal hP h0 z1 z2 hlm_1 rfl rfl)) hP (fun H locs hP => ?_)
  refine rr_astore_n (lv' := [(1, va_rf r_5), (0, .ref t0)]) hx hb dX7_product_4 rfl hl (by decide) rfl (fun ls hl => ?_)
  obtain ⟨o_38, σ_39, h_40, h⟩ := bo2_ex h
  have hE_41 : ∀ (H : Heap) (locs : List Loc) (ls : Array Slot), PS cp_ft G s σ_39 H locs → lv_has ls 3 [(1, va_rf o_38)] → W p l e (rmc (f + 5) (lo + 112) (lim - szo σ) (slim - suo σ)) s m args below meth c H locs (szo σ_39 - szo σ) (suo σ_39 - suo σ) Q (F0 m 50 ls []) := by
    intro H locs ls hP hl
    refine rr_aload_n hx hb dX7_product_50 rfl (lv_at hl 0 rfl) ?_
    refine W.widen (k := lim - szo σ) (n := slim - suo σ) (Nat.sub_le_sub_right (lm_in h).1 _) (Nat.sub_le_sub_right (lm_in h).2 _) ?_
    have h := lm_k h
    exact hret _ _ _ _ _ _ dX7_product_51 (Option.some.inj h) hP
  have hL_37 : ∀ (n : Nat) (w_42 : Option Nat) (σ_43 : ST) (H : Heap) (locs : List Loc) (ls : Array Slot), wl2 (rd_product_B5 (G.2.2.1 0) lim slim fo t0) n w_42 σ_43 = some (o_38, σ_39) → PS cp_ft G s σ_43 H locs → lv_has ls 3 [(0, .ref t0), (1, va_rf w_42)] → W p l e (rmc (f + 5) (lo + 112) (lim - szo σ) (slim - suo σ)) s m args below meth c H locs (szo σ_43 - szo σ) (suo σ_43 - suo σ) Q (F0 m 5 ls []) := by
    intro n
    induction n with
    | zero => intro w_42 σ_43 H locs ls h_44; cases h_44
    | succ n ih =>
      intro w_42 σ_43 H locs ls h_44 hP hl
      have h_44 : rd_product_B5 (G.2.2.1 0) lim slim fo t0 (wl2 (rd_product_B5 (G.2.2.1 0) lim slim fo t0) n) w_42 σ_43 = some _ := h_44
      generalize wl2 (rd_product_B5 (G.2.2.1 0) lim slim fo t0) n = rc_45 at h_44 ih
      unfold rd_product_B5 at h_44
      refine lv_aload_n hx hb dX7_product_5 rfl (lv_at hl 0 rfl) ?_
      obtain ⟨v_47, e_46, h_44⟩ := bo_ex h_44
      refine r_pgi (r := (some t0)) X hP lk_7 1 (Nat.le_of_ble_eq_true rfl) e_46 q690 dX7_product_6 ?_
      refine lv_if_ge (tgt := 50) hx hb dX7_product_9 (by decide) (fun c_48 => ?_) (fun c_48 => ?_)
      · have h_44 := it_t h_44 c_48
        obtain ⟨rfl, rfl⟩ := so2 h_44
        exact hE_41 _ _ _ hP (lv_sub hl [1] rfl)
      · have h_44 := it_f h_44 c_48
        refine lv_aload_n hx hb dX7_product_12 rfl (lv_at hl 0 rfl) ?_
        refine r_ldk X hal rfl 1 (by decide) rfl dX7_product_13 ?_
        have hlm_49 := lm_in h_44
        have h_44 := lm_k h_44
        obtain ⟨a_50, e_51, h_44⟩ := bo_ex h_44
        obtain ⟨r_53, e_52, h_44⟩ := bo_ex h_44
        refine W.le fun z1 z2 => ?_
        refine r_calliL hal h0 (r_runP (rest := []) X hP (pis_self e_51) lk_7 (mt_X7_isOne l G 1 (by decide) hal σ_43 t0 e_52) (cwV 1 hts (lw_V q759 q761 qs16 q125 q762) rfl rfl rfl ⟨rfl, cdX7_isOne⟩ (rm_lx (f := 4) (lo := 91) (f2 := f + 5) (lo2 := lo + 112) rfl rfl rfl rfl (by omega) (by omega))) rfl hl.1 rfl (Nat.le_of_ble_eq_true rfl) dX7_product_15 (lim_h0 hal hP h0 z1 z2 hlm_49 rfl rfl)) hP (fun H locs hP => ?_)
        refine lv_if_eq (tgt := 50) hx hb dX7_product_18 (by decide) (fun c_54 => ?_) (fun c_54 => ?_)
        · have h_44 := it_t h_44 c_54
          obtain ⟨rfl, rfl⟩ := so2 h_44
          exact hE_41 _ _ _ hP (lv_sub hl [1] rfl)
        · have h_44 := it_f h_44 c_54
          refine lv_aload_n hx hb dX7_product_21 rfl (lv_at hl 0 rfl) ?_
          have hlm_55 := lm_in h_44
          have h_44 := lm_k h_44
          obtain ⟨a_56, e_57, h_44⟩ := bo_ex h_44
          obtain ⟨r_59, e_58, h_44⟩ := bo_ex h_44
          refine W.le fun z1 z2 => ?_
          refine r_calliL hal h0 (r_runP (rest := []) X hP (pis_self e_57) lk_7 (mt_X7_here l G σ_43 t0 e_58) (cwV 0 hts (lw_V q754 q756 qs15 q125 q757) rfl rfl rfl ⟨rfl, cdX7_here⟩ (rm_lx (f := 0) (lo := 0) (f2 := f + 5) (lo2 := lo + 112) rfl rfl rfl rfl (by omega) (by omega))) rfl hl.1 rfl (Nat.le_of_ble_eq_true rfl) dX7_product_22 (lim_h0 hal hP h0 z1 z2 hlm_55 rfl rfl)) hP (fun H locs hP => ?_)
          refine lv_istore_n (lv' := [(2, .int r_59), (0, .ref t0), (1, va_rf w_42)]) hx hb dX7_product_25 rfl hl (by decide) (by simp [rr_cat]) (fun ls hl => ?_)
          refine lv_aload_n hx hb dX7_product_26 rfl (lv_at hl 1 rfl) ?_
          refine lv_dup hx hb dX7_product_27 rfl ?_
          obtain ⟨v_61, e_60, h_44⟩ := bo_ex h_44
          refine r_pgi (r := (some t0)) X hP lk_7 0 (Nat.le_of_ble_eq_true rfl) e_60 q689 dX7_product_28 ?_
          refine lv_iconst (v := (1 : Int32)) hx hb dX7_product_31 (by decide) ?_
          refine lv_iadd hx hb dX7_product_32 ?_
          obtain ⟨σ_63, e_62, h_44⟩ := bo_ex h_44
          refine r_ppv (r := (some t0)) X hP lk_7 0 (Nat.le_of_ble_eq_true rfl) e_62 q689 rfl (tyX7_ok 0 (by decide)) rfl rfl dX7_product_33 (fun H locs hP => ?_)
          refine W.cur hal hP h0 ?_
          refine lv_aload_n hx hb dX7_product_36 rfl (lv_at hl 1 rfl) ?_
          refine lv_iload_n hx hb dX7_product_37 rfl (lv_at hl 0 rfl) ?_
          refine rr_aload_n hx hb dX7_product_38 rfl (lv_at hl 2 rfl) ?_
          refine lv_aload_n hx hb dX7_product_39 rfl (lv_at hl 1 rfl) ?_
          have hlm_64 := lm_in h_44
          have h_44 := lm_k h_44
          obtain ⟨a_65, e_66, h_44⟩ := bo_ex h_44
          obtain ⟨r_68, σ_69, e_67, h_44⟩ := bo2_ex h_44
          refine W.le fun z1 z2 => ?_
          refine r_callrL hal h0 (r_runP (rest := [va_rf w_42, .int r_59, .ref t0]) X hP (pis_self e_66) lk_7 (hfo σ_63 t0 e_67) (cwV 0 hts (lw_V q750 q752 qs14 q125 q753) rfl rfl rfl ⟨rfl, cdX7_operand⟩ (rm_lx (f := f + 0) (lo := lo + 0) (f2 := f + 5) (lo2 := lo + 112) rfl rfl rfl rfl (by omega) (by omega))) rfl hl.1 rfl (by simp only [List.map_cons, List.map_nil, rr_cat, List.sum_cons, List.sum_nil]; exact Nat.le_of_ble_eq_true rfl) dX7_product_40 (lim_hf hal hP h0 z1 z2 hlm_64 rfl rfl)) hP (fun H locs hP => ?_)
          have hlm_70 := lm_in h_44
          have h_44 := lm_k h_44
          obtain ⟨a_71, e_72, h_44⟩ := bo_ex h_44
          obtain ⟨r_74, σ_75, e_73, h_44⟩ := bo2_ex h_44
          refine W.le fun z1 z2 => ?_
          refine r_callrL hal h0 (r_runP (rest := []) X hP (pis_self e_72) lk_7 (mt_X7_joined l G lim slim hal σ_69 t0 r_59 w_42 r_68 e_73) (cwV 3 hts (lw_V q902 q904 qs19 q125 q905) rfl rfl rfl ⟨rfl, cdX7_joined⟩ (rm_lx (f := 3) (lo := 55) (f2 := f + 5) (lo2 := lo + 112) rfl rfl rfl rfl (by omega) (by omega))) rfl hl.1 rfl (Nat.le_of_ble_eq_true rfl) dX7_product_43 (lim_hf hal hP h0 z1 z2 hlm_70 rfl rfl)) hP (fun H locs hP => ?_)
          refine rr_astore_n (lv' := [(1, va_rf r_74), (2, .int r_59), (0, .ref t0)]) hx hb dX7_product_46 rfl hl (by decide) rfl (fun ls hl => ?_)
          refine lv_goto (tgt := 5) hx hb dX7_product_47 (by decide) ?_
          exact ih _ _ _ _ _ h_44 hP (lv_sub hl [2, 0] rfl)
  exact hL_37 _ _ _ _ _ _ h_40 hP (lv_sub hl [1, 0] rfl)
def rd_sum_B5 (x0 : Nat) (lim : Nat) (slim : Nat) (fo : ST → Nat → Option (Option Nat × ST)) (l0 : Nat) (rc5 : Option Nat → ST → Option (Option Nat × ST)) (w1 : Option Nat) (σ : ST) : Option (Option Nat × ST) :=
  bo (pgi σ (some l0) 7 1) (fun (v_8 : Int32) => (if 0 ≤ v_8 then some (w1, σ) else lm σ lim slim 0 0 (bo (pis σ (some l0) 7) (fun (_ : Nat) => bo (rd_isOne x0 2 σ l0) (fun (r_14 : Int32) => (if r_14 = 0 then some (w1, σ) else lm σ lim slim 0 0 (bo (pis σ (some l0) 7) (fun (_ : Nat) => bo (rd_here x0 σ l0) (fun (r_20 : Int32) => bo (pgi σ (some l0) 7 0) (fun (v_22 : Int32) => bo (ppv σ (some l0) 7 0 (.int (v_22 + (1 : Int32)))) (fun (σ_24 : ST) => lm σ_24 lim slim 0 0 (bo (pis σ_24 (some l0) 7) (fun (_ : Nat) => bo2 (rd_product x0 lim slim fo σ_24 l0) (fun (r_29 : Option Nat) (σ_30 : ST) => lm σ_30 lim slim 0 0 (bo (pis σ_30 (some l0) 7) (fun (_ : Nat) => bo2 (rd_joined x0 lim slim σ_30 l0 r_20 w1 r_29) (fun (r_35 : Option Nat) (σ_36 : ST) => (rc5 r_35 σ_36))))))))))))))))))
def rd_sum (x0 : Nat) (lim : Nat) (slim : Nat) (fo : ST → Nat → Option (Option Nat × ST)) (σ : ST) (t0 : Nat) : Option (Option Nat × ST) :=
  lm σ lim slim 0 0 (bo (pis σ (some t0) 7) (fun (_ : Nat) => bo2 (rd_product x0 lim slim fo σ t0) (fun (r_5 : Option Nat) (σ_6 : ST) => bo2 (wl2 (rd_sum_B5 x0 lim slim fo t0) FU r_5 σ_6) (fun (o_38 : Option Nat) (σ_39 : ST) => lm σ_39 lim slim 0 0 (some (o_38, σ_39))))))
set_option maxHeartbeats 4000000 in
set_option maxRecDepth 100000 in
theorem mt_X7_sum (l : Launch) (G : GT) {f lo : Nat} (lim : Nat) (slim : Nat) (fo : ST → Nat → Option (Option Nat × ST)) (hfo : ∀ (σ : ST) (t0 : Nat) {r : Option Nat} {u : ST}, fo σ t0 = some (r, u) → CR l cp_ft G yX7_operand (ws_ yX7_operand cX7_operand 4 (some (.object "SpeaksInTurn$Node"))) (rmc f lo (lim - szo σ) (slim - suo σ)) (lim - szo σ) (slim - suo σ) [.ref t0] σ (r, u)) (hal : G.2.2.2.2 = true) (σ : ST) (t0 : Nat) {r : Option Nat} {u : ST} (h : rd_sum (G.2.2.1 0) lim slim fo σ t0 = some (r, u)) : CR l cp_ft G yX7_sum (ws_ yX7_sum cX7_sum 3 (some (.object "SpeaksInTurn$Node"))) (rmc (f + 6) (lo + 134) (lim - szo σ) (slim - suo σ)) (lim - szo σ) (slim - suo σ) [.ref t0] σ (r, u) := by
  refine m_enterRL hal (Or.inl ⟨_, rfl⟩) (by decide) rfl (lv := [(0, .ref t0)]) rfl ?_
  intro p e s m args below meth c H locs ls Q X h0 hret hP hl
  have hx := X.1.1
  have hb := X.1.2.1
  have hown := X.1.2.2.2.1
  have hts := X.1.2.2.2.2
  unfold rd_sum at h
  refine lv_aload_n hx hb dX7_sum_0 rfl (lv_at hl 0 rfl) ?_
  have hlm_1 := lm_in h
  have h := lm_k h
  obtain ⟨a_2, e_3, h⟩ := bo_ex h
  obtain ⟨r_5, σ_6, e_4, h⟩ := bo2_ex h
  refine W.le fun z1 z2 => ?_
  refine r_callrL hal h0 (r_runP (rest := []) X hP (pis_self e_3) lk_7 (mt_X7_product l G lim slim fo hfo hal σ t0 e_4) (cwV 0 hts (lw_V q746 q748 qs13 q125 q749) rfl rfl rfl ⟨rfl, cdX7_product⟩ (rm_lx (f := f + 5) (lo := lo + 112) (f2 := f + 6) (lo2 := lo + 134) rfl rfl rfl rfl (by omega) (by omega))) rfl hl.1 rfl (Nat.le_of_ble_eq_true rfl) dX7_sum_1 (lim_hf hal hP h0 z1 z2 hlm_1 rfl rfl)) hP (fun H locs hP => ?_)
  refine rr_astore_n (lv' := [(1, va_rf r_5), (0, .ref t0)]) hx hb dX7_sum_4 rfl hl (by decide) rfl (fun ls hl => ?_)
  obtain ⟨o_38, σ_39, h_40, h⟩ := bo2_ex h
  have hE_41 : ∀ (H : Heap) (locs : List Loc) (ls : Array Slot), PS cp_ft G s σ_39 H locs → lv_has ls 3 [(1, va_rf o_38)] → W p l e (rmc (f + 6) (lo + 134) (lim - szo σ) (slim - suo σ)) s m args below meth c H locs (szo σ_39 - szo σ) (suo σ_39 - suo σ) Q (F0 m 50 ls []) := by
    intro H locs ls hP hl
    refine rr_aload_n hx hb dX7_sum_50 rfl (lv_at hl 0 rfl) ?_
    refine W.widen (k := lim - szo σ) (n := slim - suo σ) (Nat.sub_le_sub_right (lm_in h).1 _) (Nat.sub_le_sub_right (lm_in h).2 _) ?_
    have h := lm_k h
    exact hret _ _ _ _ _ _ dX7_sum_51 (Option.some.inj h) hP
  have hL_37 : ∀ (n : Nat) (w_42 : Option Nat) (σ_43 : ST) (H : Heap) (locs : List Loc) (ls : Array Slot), wl2 (rd_sum_B5 (G.2.2.1 0) lim slim fo t0) n w_42 σ_43 = some (o_38, σ_39) → PS cp_ft G s σ_43 H locs → lv_has ls 3 [(0, .ref t0), (1, va_rf w_42)] → W p l e (rmc (f + 6) (lo + 134) (lim - szo σ) (slim - suo σ)) s m args below meth c H locs (szo σ_43 - szo σ) (suo σ_43 - suo σ) Q (F0 m 5 ls []) := by
    intro n
    induction n with
    | zero => intro w_42 σ_43 H locs ls h_44; cases h_44
    | succ n ih =>
      intro w_42 σ_43 H locs ls h_44 hP hl
      have h_44 : rd_sum_B5 (G.2.2.1 0) lim slim fo t0 (wl2 (rd_sum_B5 (G.2.2.1 0) lim slim fo t0) n) w_42 σ_43 = some _ := h_44
      generalize wl2 (rd_sum_B5 (G.2.2.1 0) lim slim fo t0) n = rc_45 at h_44 ih
      unfold rd_sum_B5 at h_44
      refine lv_aload_n hx hb dX7_sum_5 rfl (lv_at hl 0 rfl) ?_
      obtain ⟨v_47, e_46, h_44⟩ := bo_ex h_44
      refine r_pgi (r := (some t0)) X hP lk_7 1 (Nat.le_of_ble_eq_true rfl) e_46 q690 dX7_sum_6 ?_
      refine lv_if_ge (tgt := 50) hx hb dX7_sum_9 (by decide) (fun c_48 => ?_) (fun c_48 => ?_)
      · have h_44 := it_t h_44 c_48
        obtain ⟨rfl, rfl⟩ := so2 h_44
        exact hE_41 _ _ _ hP (lv_sub hl [1] rfl)
      · have h_44 := it_f h_44 c_48
        refine lv_aload_n hx hb dX7_sum_12 rfl (lv_at hl 0 rfl) ?_
        refine r_ldk X hal rfl 2 (by decide) rfl dX7_sum_13 ?_
        have hlm_49 := lm_in h_44
        have h_44 := lm_k h_44
        obtain ⟨a_50, e_51, h_44⟩ := bo_ex h_44
        obtain ⟨r_53, e_52, h_44⟩ := bo_ex h_44
        refine W.le fun z1 z2 => ?_
        refine r_calliL hal h0 (r_runP (rest := []) X hP (pis_self e_51) lk_7 (mt_X7_isOne l G 2 (by decide) hal σ_43 t0 e_52) (cwV 1 hts (lw_V q759 q761 qs16 q125 q762) rfl rfl rfl ⟨rfl, cdX7_isOne⟩ (rm_lx (f := 4) (lo := 91) (f2 := f + 6) (lo2 := lo + 134) rfl rfl rfl rfl (by omega) (by omega))) rfl hl.1 rfl (Nat.le_of_ble_eq_true rfl) dX7_sum_15 (lim_h0 hal hP h0 z1 z2 hlm_49 rfl rfl)) hP (fun H locs hP => ?_)
        refine lv_if_eq (tgt := 50) hx hb dX7_sum_18 (by decide) (fun c_54 => ?_) (fun c_54 => ?_)
        · have h_44 := it_t h_44 c_54
          obtain ⟨rfl, rfl⟩ := so2 h_44
          exact hE_41 _ _ _ hP (lv_sub hl [1] rfl)
        · have h_44 := it_f h_44 c_54
          refine lv_aload_n hx hb dX7_sum_21 rfl (lv_at hl 0 rfl) ?_
          have hlm_55 := lm_in h_44
          have h_44 := lm_k h_44
          obtain ⟨a_56, e_57, h_44⟩ := bo_ex h_44
          obtain ⟨r_59, e_58, h_44⟩ := bo_ex h_44
          refine W.le fun z1 z2 => ?_
          refine r_calliL hal h0 (r_runP (rest := []) X hP (pis_self e_57) lk_7 (mt_X7_here l G σ_43 t0 e_58) (cwV 0 hts (lw_V q754 q756 qs15 q125 q757) rfl rfl rfl ⟨rfl, cdX7_here⟩ (rm_lx (f := 0) (lo := 0) (f2 := f + 6) (lo2 := lo + 134) rfl rfl rfl rfl (by omega) (by omega))) rfl hl.1 rfl (Nat.le_of_ble_eq_true rfl) dX7_sum_22 (lim_h0 hal hP h0 z1 z2 hlm_55 rfl rfl)) hP (fun H locs hP => ?_)
          refine lv_istore_n (lv' := [(2, .int r_59), (0, .ref t0), (1, va_rf w_42)]) hx hb dX7_sum_25 rfl hl (by decide) (by simp [rr_cat]) (fun ls hl => ?_)
          refine lv_aload_n hx hb dX7_sum_26 rfl (lv_at hl 1 rfl) ?_
          refine lv_dup hx hb dX7_sum_27 rfl ?_
          obtain ⟨v_61, e_60, h_44⟩ := bo_ex h_44
          refine r_pgi (r := (some t0)) X hP lk_7 0 (Nat.le_of_ble_eq_true rfl) e_60 q689 dX7_sum_28 ?_
          refine lv_iconst (v := (1 : Int32)) hx hb dX7_sum_31 (by decide) ?_
          refine lv_iadd hx hb dX7_sum_32 ?_
          obtain ⟨σ_63, e_62, h_44⟩ := bo_ex h_44
          refine r_ppv (r := (some t0)) X hP lk_7 0 (Nat.le_of_ble_eq_true rfl) e_62 q689 rfl (tyX7_ok 0 (by decide)) rfl rfl dX7_sum_33 (fun H locs hP => ?_)
          refine W.cur hal hP h0 ?_
          refine lv_aload_n hx hb dX7_sum_36 rfl (lv_at hl 1 rfl) ?_
          refine lv_iload_n hx hb dX7_sum_37 rfl (lv_at hl 0 rfl) ?_
          refine rr_aload_n hx hb dX7_sum_38 rfl (lv_at hl 2 rfl) ?_
          refine lv_aload_n hx hb dX7_sum_39 rfl (lv_at hl 1 rfl) ?_
          have hlm_64 := lm_in h_44
          have h_44 := lm_k h_44
          obtain ⟨a_65, e_66, h_44⟩ := bo_ex h_44
          obtain ⟨r_68, σ_69, e_67, h_44⟩ := bo2_ex h_44
          refine W.le fun z1 z2 => ?_
          refine r_callrL hal h0 (r_runP (rest := [va_rf w_42, .int r_59, .ref t0]) X hP (pis_self e_66) lk_7 (mt_X7_product l G lim slim fo hfo hal σ_63 t0 e_67) (cwV 0 hts (lw_V q746 q748 qs13 q125 q749) rfl rfl rfl ⟨rfl, cdX7_product⟩ (rm_lx (f := f + 5) (lo := lo + 112) (f2 := f + 6) (lo2 := lo + 134) rfl rfl rfl rfl (by omega) (by omega))) rfl hl.1 rfl (by simp only [List.map_cons, List.map_nil, rr_cat, List.sum_cons, List.sum_nil]; exact Nat.le_of_ble_eq_true rfl) dX7_sum_40 (lim_hf hal hP h0 z1 z2 hlm_64 rfl rfl)) hP (fun H locs hP => ?_)
          have hlm_70 := lm_in h_44
          have h_44 := lm_k h_44
          obtain ⟨a_71, e_72, h_44⟩ := bo_ex h_44
          obtain ⟨r_74, σ_75, e_73, h_44⟩ := bo2_ex h_44
          refine W.le fun z1 z2 => ?_
          refine r_callrL hal h0 (r_runP (rest := []) X hP (pis_self e_72) lk_7 (mt_X7_joined l G lim slim hal σ_69 t0 r_59 w_42 r_68 e_73) (cwV 3 hts (lw_V q902 q904 qs19 q125 q905) rfl rfl rfl ⟨rfl, cdX7_joined⟩ (rm_lx (f := 3) (lo := 55) (f2 := f + 6) (lo2 := lo + 134) rfl rfl rfl rfl (by omega) (by omega))) rfl hl.1 rfl (Nat.le_of_ble_eq_true rfl) dX7_sum_43 (lim_hf hal hP h0 z1 z2 hlm_70 rfl rfl)) hP (fun H locs hP => ?_)
          refine rr_astore_n (lv' := [(1, va_rf r_74), (2, .int r_59), (0, .ref t0)]) hx hb dX7_sum_46 rfl hl (by decide) rfl (fun ls hl => ?_)
          refine lv_goto (tgt := 5) hx hb dX7_sum_47 (by decide) ?_
          exact ih _ _ _ _ _ h_44 hP (lv_sub hl [2, 0] rfl)
  exact hL_37 _ _ _ _ _ _ h_40 hP (lv_sub hl [1, 0] rfl)
def rd_compared (x0 : Nat) (lim : Nat) (slim : Nat) (fo : ST → Nat → Option (Option Nat × ST)) (σ : ST) (t0 : Nat) : Option (Option Nat × ST) :=
  lm σ lim slim 0 0 (bo (pis σ (some t0) 7) (fun (_ : Nat) => bo2 (rd_sum x0 lim slim fo σ t0) (fun (r_5 : Option Nat) (σ_6 : ST) => bo (pgi σ_6 (some t0) 7 1) (fun (v_8 : Int32) => (if 0 ≤ v_8 then lm σ_6 lim slim 0 0 (some (r_5, σ_6)) else lm σ_6 lim slim 0 0 (bo (pis σ_6 (some t0) 7) (fun (_ : Nat) => bo (rd_isOne x0 3 σ_6 t0) (fun (r_14 : Int32) => (if r_14 = 0 then lm σ_6 lim slim 0 0 (some (r_5, σ_6)) else lm σ_6 lim slim 0 0 (bo (pis σ_6 (some t0) 7) (fun (_ : Nat) => bo (rd_here x0 σ_6 t0) (fun (r_20 : Int32) => bo (pgi σ_6 (some t0) 7 0) (fun (v_22 : Int32) => bo (ppv σ_6 (some t0) 7 0 (.int (v_22 + (1 : Int32)))) (fun (σ_24 : ST) => lm σ_24 lim slim 0 0 (bo (pis σ_24 (some t0) 7) (fun (_ : Nat) => bo2 (rd_sum x0 lim slim fo σ_24 t0) (fun (r_29 : Option Nat) (σ_30 : ST) => lm σ_30 lim slim 0 0 (bo (pis σ_30 (some t0) 7) (fun (_ : Nat) => bo2 (rd_joined x0 lim slim σ_30 t0 r_20 r_5 r_29) (fun (r_35 : Option Nat) (σ_36 : ST) => lm σ_36 lim slim 0 0 (some (r_35, σ_36))))))))))))))))))))))
set_option maxHeartbeats 4000000 in
set_option maxRecDepth 100000 in
theorem mt_X7_compared (l : Launch) (G : GT) {f lo : Nat} (lim : Nat) (slim : Nat) (fo : ST → Nat → Option (Option Nat × ST)) (hfo : ∀ (σ : ST) (t0 : Nat) {r : Option Nat} {u : ST}, fo σ t0 = some (r, u) → CR l cp_ft G yX7_operand (ws_ yX7_operand cX7_operand 4 (some (.object "SpeaksInTurn$Node"))) (rmc f lo (lim - szo σ) (slim - suo σ)) (lim - szo σ) (slim - suo σ) [.ref t0] σ (r, u)) (hal : G.2.2.2.2 = true) (σ : ST) (t0 : Nat) {r : Option Nat} {u : ST} (h : rd_compared (G.2.2.1 0) lim slim fo σ t0 = some (r, u)) : CR l cp_ft G yX7_compared (ws_ yX7_compared cX7_compared 3 (some (.object "SpeaksInTurn$Node"))) (rmc (f + 7) (lo + 156) (lim - szo σ) (slim - suo σ)) (lim - szo σ) (slim - suo σ) [.ref t0] σ (r, u) := by
  refine m_enterRL hal (Or.inl ⟨_, rfl⟩) (by decide) rfl (lv := [(0, .ref t0)]) rfl ?_
  intro p e s m args below meth c H locs ls Q X h0 hret hP hl
  have hx := X.1.1
  have hb := X.1.2.1
  have hown := X.1.2.2.2.1
  have hts := X.1.2.2.2.2
  unfold rd_compared at h
  refine lv_aload_n hx hb dX7_compared_0 rfl (lv_at hl 0 rfl) ?_
  have hlm_1 := lm_in h
  have h := lm_k h
  obtain ⟨a_2, e_3, h⟩ := bo_ex h
  obtain ⟨r_5, σ_6, e_4, h⟩ := bo2_ex h
  refine W.le fun z1 z2 => ?_
  refine r_callrL hal h0 (r_runP (rest := []) X hP (pis_self e_3) lk_7 (mt_X7_sum l G lim slim fo hfo hal σ t0 e_4) (cwV 0 hts (lw_V q742 q744 qs12 q125 q745) rfl rfl rfl ⟨rfl, cdX7_sum⟩ (rm_lx (f := f + 6) (lo := lo + 134) (f2 := f + 7) (lo2 := lo + 156) rfl rfl rfl rfl (by omega) (by omega))) rfl hl.1 rfl (Nat.le_of_ble_eq_true rfl) dX7_compared_1 (lim_hf hal hP h0 z1 z2 hlm_1 rfl rfl)) hP (fun H locs hP => ?_)
  refine rr_astore_n (lv' := [(1, va_rf r_5), (0, .ref t0)]) hx hb dX7_compared_4 rfl hl (by decide) rfl (fun ls hl => ?_)
  refine lv_aload_n hx hb dX7_compared_5 rfl (lv_at hl 1 rfl) ?_
  obtain ⟨v_8, e_7, h⟩ := bo_ex h
  refine r_pgi (r := (some t0)) X hP lk_7 1 (Nat.le_of_ble_eq_true rfl) e_7 q690 dX7_compared_6 ?_
  refine lv_if_ge (tgt := 21) hx hb dX7_compared_9 (by decide) (fun c_9 => ?_) (fun c_9 => ?_)
  · have h := it_t h c_9
    refine rr_aload_n hx hb dX7_compared_21 rfl (lv_at hl 0 rfl) ?_
    refine W.widen (k := lim - szo σ) (n := slim - suo σ) (Nat.sub_le_sub_right (lm_in h).1 _) (Nat.sub_le_sub_right (lm_in h).2 _) ?_
    have h := lm_k h
    exact hret _ _ _ _ _ _ dX7_compared_22 (Option.some.inj h) hP
  · have h := it_f h c_9
    refine lv_aload_n hx hb dX7_compared_12 rfl (lv_at hl 1 rfl) ?_
    refine r_ldk X hal rfl 3 (by decide) rfl dX7_compared_13 ?_
    have hlm_10 := lm_in h
    have h := lm_k h
    obtain ⟨a_11, e_12, h⟩ := bo_ex h
    obtain ⟨r_14, e_13, h⟩ := bo_ex h
    refine W.le fun z1 z2 => ?_
    refine r_calliL hal h0 (r_runP (rest := []) X hP (pis_self e_12) lk_7 (mt_X7_isOne l G 3 (by decide) hal σ_6 t0 e_13) (cwV 1 hts (lw_V q759 q761 qs16 q125 q762) rfl rfl rfl ⟨rfl, cdX7_isOne⟩ (rm_lx (f := 4) (lo := 91) (f2 := f + 7) (lo2 := lo + 156) rfl rfl rfl rfl (by omega) (by omega))) rfl hl.1 rfl (Nat.le_of_ble_eq_true rfl) dX7_compared_15 (lim_h0 hal hP h0 z1 z2 hlm_10 rfl rfl)) hP (fun H locs hP => ?_)
    refine lv_if_ne (tgt := 23) hx hb dX7_compared_18 (by decide) (fun c_15 => ?_) (fun c_15 => ?_)
    · have h := it_f h c_15
      refine lv_aload_n hx hb dX7_compared_23 rfl (lv_at hl 1 rfl) ?_
      have hlm_16 := lm_in h
      have h := lm_k h
      obtain ⟨a_17, e_18, h⟩ := bo_ex h
      obtain ⟨r_20, e_19, h⟩ := bo_ex h
      refine W.le fun z1 z2 => ?_
      refine r_calliL hal h0 (r_runP (rest := []) X hP (pis_self e_18) lk_7 (mt_X7_here l G σ_6 t0 e_19) (cwV 0 hts (lw_V q754 q756 qs15 q125 q757) rfl rfl rfl ⟨rfl, cdX7_here⟩ (rm_lx (f := 0) (lo := 0) (f2 := f + 7) (lo2 := lo + 156) rfl rfl rfl rfl (by omega) (by omega))) rfl hl.1 rfl (Nat.le_of_ble_eq_true rfl) dX7_compared_24 (lim_h0 hal hP h0 z1 z2 hlm_16 rfl rfl)) hP (fun H locs hP => ?_)
      refine lv_istore_n (lv' := [(2, .int r_20), (1, va_rf r_5), (0, .ref t0)]) hx hb dX7_compared_27 rfl hl (by decide) (by simp [rr_cat]) (fun ls hl => ?_)
      refine lv_aload_n hx hb dX7_compared_28 rfl (lv_at hl 2 rfl) ?_
      refine lv_dup hx hb dX7_compared_29 rfl ?_
      obtain ⟨v_22, e_21, h⟩ := bo_ex h
      refine r_pgi (r := (some t0)) X hP lk_7 0 (Nat.le_of_ble_eq_true rfl) e_21 q689 dX7_compared_30 ?_
      refine lv_iconst (v := (1 : Int32)) hx hb dX7_compared_33 (by decide) ?_
      refine lv_iadd hx hb dX7_compared_34 ?_
      obtain ⟨σ_24, e_23, h⟩ := bo_ex h
      refine r_ppv (r := (some t0)) X hP lk_7 0 (Nat.le_of_ble_eq_true rfl) e_23 q689 rfl (tyX7_ok 0 (by decide)) rfl rfl dX7_compared_35 (fun H locs hP => ?_)
      refine W.cur hal hP h0 ?_
      refine lv_aload_n hx hb dX7_compared_38 rfl (lv_at hl 2 rfl) ?_
      refine lv_iload_n hx hb dX7_compared_39 rfl (lv_at hl 0 rfl) ?_
      refine rr_aload_n hx hb dX7_compared_40 rfl (lv_at hl 1 rfl) ?_
      refine lv_aload_n hx hb dX7_compared_41 rfl (lv_at hl 2 rfl) ?_
      have hlm_25 := lm_in h
      have h := lm_k h
      obtain ⟨a_26, e_27, h⟩ := bo_ex h
      obtain ⟨r_29, σ_30, e_28, h⟩ := bo2_ex h
      refine W.le fun z1 z2 => ?_
      refine r_callrL hal h0 (r_runP (rest := [va_rf r_5, .int r_20, .ref t0]) X hP (pis_self e_27) lk_7 (mt_X7_sum l G lim slim fo hfo hal σ_24 t0 e_28) (cwV 0 hts (lw_V q742 q744 qs12 q125 q745) rfl rfl rfl ⟨rfl, cdX7_sum⟩ (rm_lx (f := f + 6) (lo := lo + 134) (f2 := f + 7) (lo2 := lo + 156) rfl rfl rfl rfl (by omega) (by omega))) rfl hl.1 rfl (by simp only [List.map_cons, List.map_nil, rr_cat, List.sum_cons, List.sum_nil]; exact Nat.le_of_ble_eq_true rfl) dX7_compared_42 (lim_hf hal hP h0 z1 z2 hlm_25 rfl rfl)) hP (fun H locs hP => ?_)
      have hlm_31 := lm_in h
      have h := lm_k h
      obtain ⟨a_32, e_33, h⟩ := bo_ex h
      obtain ⟨r_35, σ_36, e_34, h⟩ := bo2_ex h
      refine W.le fun z1 z2 => ?_
      refine r_callrL hal h0 (r_runP (rest := []) X hP (pis_self e_33) lk_7 (mt_X7_joined l G lim slim hal σ_30 t0 r_20 r_5 r_29 e_34) (cwV 3 hts (lw_V q902 q904 qs19 q125 q905) rfl rfl rfl ⟨rfl, cdX7_joined⟩ (rm_lx (f := 3) (lo := 55) (f2 := f + 7) (lo2 := lo + 156) rfl rfl rfl rfl (by omega) (by omega))) rfl hl.1 rfl (Nat.le_of_ble_eq_true rfl) dX7_compared_45 (lim_hf hal hP h0 z1 z2 hlm_31 rfl rfl)) hP (fun H locs hP => ?_)
      refine W.widen (k := lim - szo σ) (n := slim - suo σ) (Nat.sub_le_sub_right (lm_in h).1 _) (Nat.sub_le_sub_right (lm_in h).2 _) ?_
      have h := lm_k h
      exact hret _ _ _ _ _ _ dX7_compared_48 (Option.some.inj h) hP
    · have h := it_t h c_15
      refine rr_aload_n hx hb dX7_compared_21 rfl (lv_at hl 0 rfl) ?_
      refine W.widen (k := lim - szo σ) (n := slim - suo σ) (Nat.sub_le_sub_right (lm_in h).1 _) (Nat.sub_le_sub_right (lm_in h).2 _) ?_
      have h := lm_k h
      exact hret _ _ _ _ _ _ dX7_compared_22 (Option.some.inj h) hP
def rd_all_B5 (x0 : Nat) (lim : Nat) (slim : Nat) (fo : ST → Nat → Option (Option Nat × ST)) (l0 : Nat) (rc5 : Option Nat → ST → Option (Option Nat × ST)) (w1 : Option Nat) (σ : ST) : Option (Option Nat × ST) :=
  bo (pgi σ (some l0) 7 1) (fun (v_8 : Int32) => (if 0 ≤ v_8 then some (w1, σ) else lm σ lim slim 0 0 (bo (pis σ (some l0) 7) (fun (_ : Nat) => bo (rd_here x0 σ l0) (fun (r_14 : Int32) => (if r_14 = (38 : Int32) then bo (pgi σ (some l0) 7 0) (fun (v_17 : Int32) => bo (ppv σ (some l0) 7 0 (.int (v_17 + (1 : Int32)))) (fun (σ_19 : ST) => lm σ_19 lim slim 0 0 (bo (pis σ_19 (some l0) 7) (fun (_ : Nat) => bo2 (rd_compared x0 lim slim fo σ_19 l0) (fun (r_24 : Option Nat) (σ_25 : ST) => lm σ_25 lim slim 0 0 (bo (pis σ_25 (some l0) 7) (fun (_ : Nat) => bo2 (rd_joined x0 lim slim σ_25 l0 (38 : Int32) w1 r_24) (fun (r_30 : Option Nat) (σ_31 : ST) => (rc5 r_30 σ_31))))))))) else some (w1, σ)))))))
def rd_all (x0 : Nat) (lim : Nat) (slim : Nat) (fo : ST → Nat → Option (Option Nat × ST)) (σ : ST) (t0 : Nat) : Option (Option Nat × ST) :=
  lm σ lim slim 0 0 (bo (pis σ (some t0) 7) (fun (_ : Nat) => bo2 (rd_compared x0 lim slim fo σ t0) (fun (r_5 : Option Nat) (σ_6 : ST) => bo2 (wl2 (rd_all_B5 x0 lim slim fo t0) FU r_5 σ_6) (fun (o_33 : Option Nat) (σ_34 : ST) => lm σ_34 lim slim 0 0 (some (o_33, σ_34))))))
set_option maxHeartbeats 4000000 in
set_option maxRecDepth 100000 in
theorem mt_X7_all (l : Launch) (G : GT) {f lo : Nat} (lim : Nat) (slim : Nat) (fo : ST → Nat → Option (Option Nat × ST)) (hfo : ∀ (σ : ST) (t0 : Nat) {r : Option Nat} {u : ST}, fo σ t0 = some (r, u) → CR l cp_ft G yX7_operand (ws_ yX7_operand cX7_operand 4 (some (.object "SpeaksInTurn$Node"))) (rmc f lo (lim - szo σ) (slim - suo σ)) (lim - szo σ) (slim - suo σ) [.ref t0] σ (r, u)) (hal : G.2.2.2.2 = true) (σ : ST) (t0 : Nat) {r : Option Nat} {u : ST} (h : rd_all (G.2.2.1 0) lim slim fo σ t0 = some (r, u)) : CR l cp_ft G yX7_all (ws_ yX7_all cX7_all 2 (some (.object "SpeaksInTurn$Node"))) (rmc (f + 8) (lo + 178) (lim - szo σ) (slim - suo σ)) (lim - szo σ) (slim - suo σ) [.ref t0] σ (r, u) := by
  refine m_enterRL hal (Or.inl ⟨_, rfl⟩) (by decide) rfl (lv := [(0, .ref t0)]) rfl ?_
  intro p e s m args below meth c H locs ls Q X h0 hret hP hl
  have hx := X.1.1
  have hb := X.1.2.1
  have hown := X.1.2.2.2.1
  have hts := X.1.2.2.2.2
  unfold rd_all at h
  refine lv_aload_n hx hb dX7_all_0 rfl (lv_at hl 0 rfl) ?_
  have hlm_1 := lm_in h
  have h := lm_k h
  obtain ⟨a_2, e_3, h⟩ := bo_ex h
  obtain ⟨r_5, σ_6, e_4, h⟩ := bo2_ex h
  refine W.le fun z1 z2 => ?_
  refine r_callrL hal h0 (r_runP (rest := []) X hP (pis_self e_3) lk_7 (mt_X7_compared l G lim slim fo hfo hal σ t0 e_4) (cwV 0 hts (lw_V q738 q740 qs11 q125 q741) rfl rfl rfl ⟨rfl, cdX7_compared⟩ (rm_lx (f := f + 7) (lo := lo + 156) (f2 := f + 8) (lo2 := lo + 178) rfl rfl rfl rfl (by omega) (by omega))) rfl hl.1 rfl (Nat.le_of_ble_eq_true rfl) dX7_all_1 (lim_hf hal hP h0 z1 z2 hlm_1 rfl rfl)) hP (fun H locs hP => ?_)
  refine rr_astore_n (lv' := [(1, va_rf r_5), (0, .ref t0)]) hx hb dX7_all_4 rfl hl (by decide) rfl (fun ls hl => ?_)
  obtain ⟨o_33, σ_34, h_35, h⟩ := bo2_ex h
  have hE_36 : ∀ (H : Heap) (locs : List Loc) (ls : Array Slot), PS cp_ft G s σ_34 H locs → lv_has ls 2 [(1, va_rf o_33)] → W p l e (rmc (f + 8) (lo + 178) (lim - szo σ) (slim - suo σ)) s m args below meth c H locs (szo σ_34 - szo σ) (suo σ_34 - suo σ) Q (F0 m 46 ls []) := by
    intro H locs ls hP hl
    refine rr_aload_n hx hb dX7_all_46 rfl (lv_at hl 0 rfl) ?_
    refine W.widen (k := lim - szo σ) (n := slim - suo σ) (Nat.sub_le_sub_right (lm_in h).1 _) (Nat.sub_le_sub_right (lm_in h).2 _) ?_
    have h := lm_k h
    exact hret _ _ _ _ _ _ dX7_all_47 (Option.some.inj h) hP
  have hL_32 : ∀ (n : Nat) (w_37 : Option Nat) (σ_38 : ST) (H : Heap) (locs : List Loc) (ls : Array Slot), wl2 (rd_all_B5 (G.2.2.1 0) lim slim fo t0) n w_37 σ_38 = some (o_33, σ_34) → PS cp_ft G s σ_38 H locs → lv_has ls 2 [(0, .ref t0), (1, va_rf w_37)] → W p l e (rmc (f + 8) (lo + 178) (lim - szo σ) (slim - suo σ)) s m args below meth c H locs (szo σ_38 - szo σ) (suo σ_38 - suo σ) Q (F0 m 5 ls []) := by
    intro n
    induction n with
    | zero => intro w_37 σ_38 H locs ls h_39; cases h_39
    | succ n ih =>
      intro w_37 σ_38 H locs ls h_39 hP hl
      have h_39 : rd_all_B5 (G.2.2.1 0) lim slim fo t0 (wl2 (rd_all_B5 (G.2.2.1 0) lim slim fo t0) n) w_37 σ_38 = some _ := h_39
      generalize wl2 (rd_all_B5 (G.2.2.1 0) lim slim fo t0) n = rc_40 at h_39 ih
      unfold rd_all_B5 at h_39
      refine lv_aload_n hx hb dX7_all_5 rfl (lv_at hl 0 rfl) ?_
      obtain ⟨v_42, e_41, h_39⟩ := bo_ex h_39
      refine r_pgi (r := (some t0)) X hP lk_7 1 (Nat.le_of_ble_eq_true rfl) e_41 q690 dX7_all_6 ?_
      refine lv_if_ge (tgt := 46) hx hb dX7_all_9 (by decide) (fun c_43 => ?_) (fun c_43 => ?_)
      · have h_39 := it_t h_39 c_43
        obtain ⟨rfl, rfl⟩ := so2 h_39
        exact hE_36 _ _ _ hP (lv_sub hl [1] rfl)
      · have h_39 := it_f h_39 c_43
        refine lv_aload_n hx hb dX7_all_12 rfl (lv_at hl 0 rfl) ?_
        have hlm_44 := lm_in h_39
        have h_39 := lm_k h_39
        obtain ⟨a_45, e_46, h_39⟩ := bo_ex h_39
        obtain ⟨r_48, e_47, h_39⟩ := bo_ex h_39
        refine W.le fun z1 z2 => ?_
        refine r_calliL hal h0 (r_runP (rest := []) X hP (pis_self e_46) lk_7 (mt_X7_here l G σ_38 t0 e_47) (cwV 0 hts (lw_V q754 q756 qs15 q125 q757) rfl rfl rfl ⟨rfl, cdX7_here⟩ (rm_lx (f := 0) (lo := 0) (f2 := f + 8) (lo2 := lo + 178) rfl rfl rfl rfl (by omega) (by omega))) rfl hl.1 rfl (Nat.le_of_ble_eq_true rfl) dX7_all_13 (lim_h0 hal hP h0 z1 z2 hlm_44 rfl rfl)) hP (fun H locs hP => ?_)
        refine lv_bipush (v := (38 : Int32)) hx hb dX7_all_16 (by decide) ?_
        refine lv_icmp_ne (tgt := 46) hx hb dX7_all_18 (by decide) (fun c_49 => ?_) (fun c_49 => ?_)
        · have h_39 := it_f h_39 c_49
          obtain ⟨rfl, rfl⟩ := so2 h_39
          exact hE_36 _ _ _ hP (lv_sub hl [1] rfl)
        · have h_39 := it_t h_39 c_49
          refine lv_aload_n hx hb dX7_all_21 rfl (lv_at hl 0 rfl) ?_
          refine lv_dup hx hb dX7_all_22 rfl ?_
          obtain ⟨v_51, e_50, h_39⟩ := bo_ex h_39
          refine r_pgi (r := (some t0)) X hP lk_7 0 (Nat.le_of_ble_eq_true rfl) e_50 q689 dX7_all_23 ?_
          refine lv_iconst (v := (1 : Int32)) hx hb dX7_all_26 (by decide) ?_
          refine lv_iadd hx hb dX7_all_27 ?_
          obtain ⟨σ_53, e_52, h_39⟩ := bo_ex h_39
          refine r_ppv (r := (some t0)) X hP lk_7 0 (Nat.le_of_ble_eq_true rfl) e_52 q689 rfl (tyX7_ok 0 (by decide)) rfl rfl dX7_all_28 (fun H locs hP => ?_)
          refine W.cur hal hP h0 ?_
          refine lv_aload_n hx hb dX7_all_31 rfl (lv_at hl 0 rfl) ?_
          refine lv_bipush (v := (38 : Int32)) hx hb dX7_all_32 (by decide) ?_
          refine rr_aload_n hx hb dX7_all_34 rfl (lv_at hl 1 rfl) ?_
          refine lv_aload_n hx hb dX7_all_35 rfl (lv_at hl 0 rfl) ?_
          have hlm_54 := lm_in h_39
          have h_39 := lm_k h_39
          obtain ⟨a_55, e_56, h_39⟩ := bo_ex h_39
          obtain ⟨r_58, σ_59, e_57, h_39⟩ := bo2_ex h_39
          refine W.le fun z1 z2 => ?_
          refine r_callrL hal h0 (r_runP (rest := [va_rf w_37, .int (38 : Int32), .ref t0]) X hP (pis_self e_56) lk_7 (mt_X7_compared l G lim slim fo hfo hal σ_53 t0 e_57) (cwV 0 hts (lw_V q738 q740 qs11 q125 q741) rfl rfl rfl ⟨rfl, cdX7_compared⟩ (rm_lx (f := f + 7) (lo := lo + 156) (f2 := f + 8) (lo2 := lo + 178) rfl rfl rfl rfl (by omega) (by omega))) rfl hl.1 rfl (by simp only [List.map_cons, List.map_nil, rr_cat, List.sum_cons, List.sum_nil]; exact Nat.le_of_ble_eq_true rfl) dX7_all_36 (lim_hf hal hP h0 z1 z2 hlm_54 rfl rfl)) hP (fun H locs hP => ?_)
          have hlm_60 := lm_in h_39
          have h_39 := lm_k h_39
          obtain ⟨a_61, e_62, h_39⟩ := bo_ex h_39
          obtain ⟨r_64, σ_65, e_63, h_39⟩ := bo2_ex h_39
          refine W.le fun z1 z2 => ?_
          refine r_callrL hal h0 (r_runP (rest := []) X hP (pis_self e_62) lk_7 (mt_X7_joined l G lim slim hal σ_59 t0 (38 : Int32) w_37 r_58 e_63) (cwV 3 hts (lw_V q902 q904 qs19 q125 q905) rfl rfl rfl ⟨rfl, cdX7_joined⟩ (rm_lx (f := 3) (lo := 55) (f2 := f + 8) (lo2 := lo + 178) rfl rfl rfl rfl (by omega) (by omega))) rfl hl.1 rfl (Nat.le_of_ble_eq_true rfl) dX7_all_39 (lim_hf hal hP h0 z1 z2 hlm_60 rfl rfl)) hP (fun H locs hP => ?_)
          refine rr_astore_n (lv' := [(1, va_rf r_64), (0, .ref t0)]) hx hb dX7_all_42 rfl hl (by decide) rfl (fun ls hl => ?_)
          refine lv_goto (tgt := 5) hx hb dX7_all_43 (by decide) ?_
          exact ih _ _ _ _ _ h_39 hP (lv_sub hl [1, 0] rfl)
  exact hL_32 _ _ _ _ _ _ h_35 hP (lv_sub hl [1, 0] rfl)
def rd_either_B5 (x0 : Nat) (lim : Nat) (slim : Nat) (fo : ST → Nat → Option (Option Nat × ST)) (l0 : Nat) (rc5 : Option Nat → ST → Option (Option Nat × ST)) (w1 : Option Nat) (σ : ST) : Option (Option Nat × ST) :=
  bo (pgi σ (some l0) 7 1) (fun (v_8 : Int32) => (if 0 ≤ v_8 then some (w1, σ) else lm σ lim slim 0 0 (bo (pis σ (some l0) 7) (fun (_ : Nat) => bo (rd_here x0 σ l0) (fun (r_14 : Int32) => (if r_14 = (124 : Int32) then bo (pgi σ (some l0) 7 0) (fun (v_17 : Int32) => bo (ppv σ (some l0) 7 0 (.int (v_17 + (1 : Int32)))) (fun (σ_19 : ST) => lm σ_19 lim slim 0 0 (bo (pis σ_19 (some l0) 7) (fun (_ : Nat) => bo2 (rd_all x0 lim slim fo σ_19 l0) (fun (r_24 : Option Nat) (σ_25 : ST) => lm σ_25 lim slim 0 0 (bo (pis σ_25 (some l0) 7) (fun (_ : Nat) => bo2 (rd_joined x0 lim slim σ_25 l0 (124 : Int32) w1 r_24) (fun (r_30 : Option Nat) (σ_31 : ST) => (rc5 r_30 σ_31))))))))) else some (w1, σ)))))))
def rd_either (x0 : Nat) (lim : Nat) (slim : Nat) (fo : ST → Nat → Option (Option Nat × ST)) (σ : ST) (t0 : Nat) : Option (Option Nat × ST) :=
  lm σ lim slim 0 0 (bo (pis σ (some t0) 7) (fun (_ : Nat) => bo2 (rd_all x0 lim slim fo σ t0) (fun (r_5 : Option Nat) (σ_6 : ST) => bo2 (wl2 (rd_either_B5 x0 lim slim fo t0) FU r_5 σ_6) (fun (o_33 : Option Nat) (σ_34 : ST) => lm σ_34 lim slim 0 0 (some (o_33, σ_34))))))
set_option maxHeartbeats 4000000 in
set_option maxRecDepth 100000 in
theorem mt_X7_either (l : Launch) (G : GT) {f lo : Nat} (lim : Nat) (slim : Nat) (fo : ST → Nat → Option (Option Nat × ST)) (hfo : ∀ (σ : ST) (t0 : Nat) {r : Option Nat} {u : ST}, fo σ t0 = some (r, u) → CR l cp_ft G yX7_operand (ws_ yX7_operand cX7_operand 4 (some (.object "SpeaksInTurn$Node"))) (rmc f lo (lim - szo σ) (slim - suo σ)) (lim - szo σ) (slim - suo σ) [.ref t0] σ (r, u)) (hal : G.2.2.2.2 = true) (σ : ST) (t0 : Nat) {r : Option Nat} {u : ST} (h : rd_either (G.2.2.1 0) lim slim fo σ t0 = some (r, u)) : CR l cp_ft G yX7_either (ws_ yX7_either cX7_either 2 (some (.object "SpeaksInTurn$Node"))) (rmc (f + 9) (lo + 199) (lim - szo σ) (slim - suo σ)) (lim - szo σ) (slim - suo σ) [.ref t0] σ (r, u) := by
  refine m_enterRL hal (Or.inl ⟨_, rfl⟩) (by decide) rfl (lv := [(0, .ref t0)]) rfl ?_
  intro p e s m args below meth c H locs ls Q X h0 hret hP hl
  have hx := X.1.1
  have hb := X.1.2.1
  have hown := X.1.2.2.2.1
  have hts := X.1.2.2.2.2
  unfold rd_either at h
  refine lv_aload_n hx hb dX7_either_0 rfl (lv_at hl 0 rfl) ?_
  have hlm_1 := lm_in h
  have h := lm_k h
  obtain ⟨a_2, e_3, h⟩ := bo_ex h
  obtain ⟨r_5, σ_6, e_4, h⟩ := bo2_ex h
  refine W.le fun z1 z2 => ?_
  refine r_callrL hal h0 (r_runP (rest := []) X hP (pis_self e_3) lk_7 (mt_X7_all l G lim slim fo hfo hal σ t0 e_4) (cwV 0 hts (lw_V q734 q736 qs10 q125 q737) rfl rfl rfl ⟨rfl, cdX7_all⟩ (rm_lx (f := f + 8) (lo := lo + 178) (f2 := f + 9) (lo2 := lo + 199) rfl rfl rfl rfl (by omega) (by omega))) rfl hl.1 rfl (Nat.le_of_ble_eq_true rfl) dX7_either_1 (lim_hf hal hP h0 z1 z2 hlm_1 rfl rfl)) hP (fun H locs hP => ?_)
  refine rr_astore_n (lv' := [(1, va_rf r_5), (0, .ref t0)]) hx hb dX7_either_4 rfl hl (by decide) rfl (fun ls hl => ?_)
  obtain ⟨o_33, σ_34, h_35, h⟩ := bo2_ex h
  have hE_36 : ∀ (H : Heap) (locs : List Loc) (ls : Array Slot), PS cp_ft G s σ_34 H locs → lv_has ls 2 [(1, va_rf o_33)] → W p l e (rmc (f + 9) (lo + 199) (lim - szo σ) (slim - suo σ)) s m args below meth c H locs (szo σ_34 - szo σ) (suo σ_34 - suo σ) Q (F0 m 46 ls []) := by
    intro H locs ls hP hl
    refine rr_aload_n hx hb dX7_either_46 rfl (lv_at hl 0 rfl) ?_
    refine W.widen (k := lim - szo σ) (n := slim - suo σ) (Nat.sub_le_sub_right (lm_in h).1 _) (Nat.sub_le_sub_right (lm_in h).2 _) ?_
    have h := lm_k h
    exact hret _ _ _ _ _ _ dX7_either_47 (Option.some.inj h) hP
  have hL_32 : ∀ (n : Nat) (w_37 : Option Nat) (σ_38 : ST) (H : Heap) (locs : List Loc) (ls : Array Slot), wl2 (rd_either_B5 (G.2.2.1 0) lim slim fo t0) n w_37 σ_38 = some (o_33, σ_34) → PS cp_ft G s σ_38 H locs → lv_has ls 2 [(0, .ref t0), (1, va_rf w_37)] → W p l e (rmc (f + 9) (lo + 199) (lim - szo σ) (slim - suo σ)) s m args below meth c H locs (szo σ_38 - szo σ) (suo σ_38 - suo σ) Q (F0 m 5 ls []) := by
    intro n
    induction n with
    | zero => intro w_37 σ_38 H locs ls h_39; cases h_39
    | succ n ih =>
      intro w_37 σ_38 H locs ls h_39 hP hl
      have h_39 : rd_either_B5 (G.2.2.1 0) lim slim fo t0 (wl2 (rd_either_B5 (G.2.2.1 0) lim slim fo t0) n) w_37 σ_38 = some _ := h_39
      generalize wl2 (rd_either_B5 (G.2.2.1 0) lim slim fo t0) n = rc_40 at h_39 ih
      unfold rd_either_B5 at h_39
      refine lv_aload_n hx hb dX7_either_5 rfl (lv_at hl 0 rfl) ?_
      obtain ⟨v_42, e_41, h_39⟩ := bo_ex h_39
      refine r_pgi (r := (some t0)) X hP lk_7 1 (Nat.le_of_ble_eq_true rfl) e_41 q690 dX7_either_6 ?_
      refine lv_if_ge (tgt := 46) hx hb dX7_either_9 (by decide) (fun c_43 => ?_) (fun c_43 => ?_)
      · have h_39 := it_t h_39 c_43
        obtain ⟨rfl, rfl⟩ := so2 h_39
        exact hE_36 _ _ _ hP (lv_sub hl [1] rfl)
      · have h_39 := it_f h_39 c_43
        refine lv_aload_n hx hb dX7_either_12 rfl (lv_at hl 0 rfl) ?_
        have hlm_44 := lm_in h_39
        have h_39 := lm_k h_39
        obtain ⟨a_45, e_46, h_39⟩ := bo_ex h_39
        obtain ⟨r_48, e_47, h_39⟩ := bo_ex h_39
        refine W.le fun z1 z2 => ?_
        refine r_calliL hal h0 (r_runP (rest := []) X hP (pis_self e_46) lk_7 (mt_X7_here l G σ_38 t0 e_47) (cwV 0 hts (lw_V q754 q756 qs15 q125 q757) rfl rfl rfl ⟨rfl, cdX7_here⟩ (rm_lx (f := 0) (lo := 0) (f2 := f + 9) (lo2 := lo + 199) rfl rfl rfl rfl (by omega) (by omega))) rfl hl.1 rfl (Nat.le_of_ble_eq_true rfl) dX7_either_13 (lim_h0 hal hP h0 z1 z2 hlm_44 rfl rfl)) hP (fun H locs hP => ?_)
        refine lv_bipush (v := (124 : Int32)) hx hb dX7_either_16 (by decide) ?_
        refine lv_icmp_ne (tgt := 46) hx hb dX7_either_18 (by decide) (fun c_49 => ?_) (fun c_49 => ?_)
        · have h_39 := it_f h_39 c_49
          obtain ⟨rfl, rfl⟩ := so2 h_39
          exact hE_36 _ _ _ hP (lv_sub hl [1] rfl)
        · have h_39 := it_t h_39 c_49
          refine lv_aload_n hx hb dX7_either_21 rfl (lv_at hl 0 rfl) ?_
          refine lv_dup hx hb dX7_either_22 rfl ?_
          obtain ⟨v_51, e_50, h_39⟩ := bo_ex h_39
          refine r_pgi (r := (some t0)) X hP lk_7 0 (Nat.le_of_ble_eq_true rfl) e_50 q689 dX7_either_23 ?_
          refine lv_iconst (v := (1 : Int32)) hx hb dX7_either_26 (by decide) ?_
          refine lv_iadd hx hb dX7_either_27 ?_
          obtain ⟨σ_53, e_52, h_39⟩ := bo_ex h_39
          refine r_ppv (r := (some t0)) X hP lk_7 0 (Nat.le_of_ble_eq_true rfl) e_52 q689 rfl (tyX7_ok 0 (by decide)) rfl rfl dX7_either_28 (fun H locs hP => ?_)
          refine W.cur hal hP h0 ?_
          refine lv_aload_n hx hb dX7_either_31 rfl (lv_at hl 0 rfl) ?_
          refine lv_bipush (v := (124 : Int32)) hx hb dX7_either_32 (by decide) ?_
          refine rr_aload_n hx hb dX7_either_34 rfl (lv_at hl 1 rfl) ?_
          refine lv_aload_n hx hb dX7_either_35 rfl (lv_at hl 0 rfl) ?_
          have hlm_54 := lm_in h_39
          have h_39 := lm_k h_39
          obtain ⟨a_55, e_56, h_39⟩ := bo_ex h_39
          obtain ⟨r_58, σ_59, e_57, h_39⟩ := bo2_ex h_39
          refine W.le fun z1 z2 => ?_
          refine r_callrL hal h0 (r_runP (rest := [va_rf w_37, .int (124 : Int32), .ref t0]) X hP (pis_self e_56) lk_7 (mt_X7_all l G lim slim fo hfo hal σ_53 t0 e_57) (cwV 0 hts (lw_V q734 q736 qs10 q125 q737) rfl rfl rfl ⟨rfl, cdX7_all⟩ (rm_lx (f := f + 8) (lo := lo + 178) (f2 := f + 9) (lo2 := lo + 199) rfl rfl rfl rfl (by omega) (by omega))) rfl hl.1 rfl (by simp only [List.map_cons, List.map_nil, rr_cat, List.sum_cons, List.sum_nil]; exact Nat.le_of_ble_eq_true rfl) dX7_either_36 (lim_hf hal hP h0 z1 z2 hlm_54 rfl rfl)) hP (fun H locs hP => ?_)
          have hlm_60 := lm_in h_39
          have h_39 := lm_k h_39
          obtain ⟨a_61, e_62, h_39⟩ := bo_ex h_39
          obtain ⟨r_64, σ_65, e_63, h_39⟩ := bo2_ex h_39
          refine W.le fun z1 z2 => ?_
          refine r_callrL hal h0 (r_runP (rest := []) X hP (pis_self e_62) lk_7 (mt_X7_joined l G lim slim hal σ_59 t0 (124 : Int32) w_37 r_58 e_63) (cwV 3 hts (lw_V q902 q904 qs19 q125 q905) rfl rfl rfl ⟨rfl, cdX7_joined⟩ (rm_lx (f := 3) (lo := 55) (f2 := f + 9) (lo2 := lo + 199) rfl rfl rfl rfl (by omega) (by omega))) rfl hl.1 rfl (Nat.le_of_ble_eq_true rfl) dX7_either_39 (lim_hf hal hP h0 z1 z2 hlm_60 rfl rfl)) hP (fun H locs hP => ?_)
          refine rr_astore_n (lv' := [(1, va_rf r_64), (0, .ref t0)]) hx hb dX7_either_42 rfl hl (by decide) rfl (fun ls hl => ?_)
          refine lv_goto (tgt := 5) hx hb dX7_either_43 (by decide) ?_
          exact ih _ _ _ _ _ h_39 hP (lv_sub hl [1, 0] rfl)
  exact hL_32 _ _ _ _ _ _ h_35 hP (lv_sub hl [1, 0] rfl)
def rd_operandB_K45 (x0 : Nat) (lim : Nat) (slim : Nat) (fo : ST → Nat → Option (Option Nat × ST)) (σ : ST) (k0 : Nat) (k1 : Int32) : Option (Option Nat × ST) :=
  lm σ lim slim 0 0 (bo (pis σ (some k0) 7) (fun (_ : Nat) => bo2 (rd_opens x0 σ k0) (fun (r_17 : Int32) (σ_18 : ST) => (if r_17 = 0 then lm σ_18 lim slim 0 0 (bo (pis σ_18 (some k0) 7) (fun (_ : Nat) => bo2 (rd_wrong x0 σ_18 k0) (fun (r_50 : Option Nat) (σ_51 : ST) => lm σ_51 lim slim 0 0 (some (r_50, σ_51))))) else lm σ_18 lim slim 0 0 (bo (pis σ_18 (some k0) 7) (fun (_ : Nat) => bo2 (fo σ_18 k0) (fun (r_24 : Option Nat) (σ_25 : ST) => bo (pgi σ_25 (some k0) 7 2) (fun (v_27 : Int32) => bo (ppv σ_25 (some k0) 7 2 (.int (v_27 - (1 : Int32)))) (fun (σ_29 : ST) => bo (pgi σ_29 (some k0) 7 1) (fun (v_31 : Int32) => (if v_31 < 0 then (if k1 = (33 : Int32) then lm σ_29 lim slim 1 1 (st_ (aloc σ_29 10 [.null] 1) (fun (σ_40 : ST) => lm σ_40 lim slim 0 0 (bo (dn_init σ_40 (szo σ_29) r_24) (fun (σ_45 : ST) => lm σ_45 lim slim 0 0 (some ((some (szo σ_29)), σ_45)))))) else lm σ_29 lim slim 1 1 (st_ (aloc σ_29 11 [.null] 1) (fun (σ_34 : ST) => lm σ_34 lim slim 0 0 (bo (tn_init σ_34 (szo σ_29) r_24) (fun (σ_39 : ST) => lm σ_39 lim slim 0 0 (some ((some (szo σ_29)), σ_39))))))) else lm σ_29 lim slim 0 0 (some (none, σ_29)))))))))))))
def rd_operandB_B179 (x0 : Nat) (lim : Nat) (slim : Nat) (fo : ST → Nat → Option (Option Nat × ST)) (l0 : Nat) (rc179 : Int32 → Int32 → ST → Option (Int32 × Int32 × ST)) (w2 : Int32) (w3 : Int32) (σ : ST) : Option (Int32 × Int32 × ST) :=
  (if (4 : Int32) ≤ w2 then some (w2, w3, σ) else lm σ lim slim 0 0 (bo (pis σ (some l0) 7) (fun (_ : Nat) => bo (rd_here x0 σ l0) (fun (r_100 : Int32) => lm σ lim slim 0 0 (bo (cp_in r_100 (48 : Int32) (57 : Int32)) (fun (r_103 : Int32) => (if r_103 = 0 then some (w2, w3, σ) else lm σ lim slim 0 0 (bo (pis σ (some l0) 7) (fun (_ : Nat) => bo (rd_here x0 σ l0) (fun (r_109 : Int32) => bo (pgi σ (some l0) 7 0) (fun (v_111 : Int32) => bo (ppv σ (some l0) 7 0 (.int (v_111 + (1 : Int32)))) (fun (σ_113 : ST) => (rc179 (w2 + (1 : Int32)) ((((10 : Int32) * w3) + r_109) - (48 : Int32)) σ_113)))))))))))))
def rd_operandB (x0 : Nat) (lim : Nat) (slim : Nat) (fo : ST → Nat → Option (Option Nat × ST)) (σ : ST) (t0 : Nat) : Option (Option Nat × ST) :=
  lm σ lim slim 0 0 (bo (pis σ (some t0) 7) (fun (_ : Nat) => bo (rd_here x0 σ t0) (fun (r_5 : Int32) => lm σ lim slim 0 0 (bo (pis σ (some t0) 7) (fun (_ : Nat) => bo (rd_isOne x0 0 σ t0) (fun (r_10 : Int32) => (if r_10 = 0 then (if r_5 = (33 : Int32) then (rd_operandB_K45 x0 lim slim fo σ t0 r_5) else (if r_5 = (45 : Int32) then (rd_operandB_K45 x0 lim slim fo σ t0 r_5) else (if r_5 = (40 : Int32) then lm σ lim slim 0 0 (bo (pis σ (some t0) 7) (fun (_ : Nat) => bo2 (rd_opens x0 σ t0) (fun (r_176 : Int32) (σ_177 : ST) => (if r_176 = 0 then lm σ_177 lim slim 0 0 (bo (pis σ_177 (some t0) 7) (fun (_ : Nat) => bo2 (rd_wrong x0 σ_177 t0) (fun (r_212 : Option Nat) (σ_213 : ST) => lm σ_213 lim slim 0 0 (some (r_212, σ_213))))) else lm σ_177 lim slim 0 0 (bo (pis σ_177 (some t0) 7) (fun (_ : Nat) => bo2 (rd_either x0 lim slim fo σ_177 t0) (fun (r_183 : Option Nat) (σ_184 : ST) => bo (pgi σ_184 (some t0) 7 1) (fun (v_186 : Int32) => (if v_186 < 0 then lm σ_184 lim slim 0 0 (bo (pis σ_184 (some t0) 7) (fun (_ : Nat) => bo (rd_here x0 σ_184 t0) (fun (r_192 : Int32) => (if r_192 = (41 : Int32) then bo (pgi σ_184 (some t0) 7 0) (fun (v_195 : Int32) => bo (ppv σ_184 (some t0) 7 0 (.int (v_195 + (1 : Int32)))) (fun (σ_197 : ST) => bo (pgi σ_197 (some t0) 7 2) (fun (v_199 : Int32) => bo (ppv σ_197 (some t0) 7 2 (.int (v_199 - (1 : Int32)))) (fun (σ_201 : ST) => lm σ_201 lim slim 0 0 (some (r_183, σ_201)))))) else lm σ_184 lim slim 0 0 (bo (pis σ_184 (some t0) 7) (fun (_ : Nat) => bo2 (rd_wrong x0 σ_184 t0) (fun (r_206 : Option Nat) (σ_207 : ST) => lm σ_207 lim slim 0 0 (some (r_206, σ_207))))))))) else lm σ_184 lim slim 0 0 (some (none, σ_184))))))))))) else bo3 (wl3 (rd_operandB_B179 x0 lim slim fo t0) FU (0 : Int32) (0 : Int32) σ) (fun (o_115 : Int32) (o_116 : Int32) (σ_117 : ST) => (if o_115 = 0 then lm σ_117 lim slim 0 0 (bo (pis σ_117 (some t0) 7) (fun (_ : Nat) => bo2 (rd_wrong x0 σ_117 t0) (fun (r_125 : Option Nat) (σ_126 : ST) => lm σ_126 lim slim 0 0 (some (r_125, σ_126))))) else lm σ_117 lim slim 0 0 (bo (pis σ_117 (some t0) 7) (fun (_ : Nat) => bo (rd_here x0 σ_117 t0) (fun (r_131 : Int32) => lm σ_117 lim slim 0 0 (bo (cp_in r_131 (48 : Int32) (57 : Int32)) (fun (r_134 : Int32) => (if r_134 = 0 then lm σ_117 lim slim 1 1 (st_ (aloc σ_117 12 [.int 0] 1) (fun (σ_136 : ST) => lm σ_136 lim slim 0 0 (bo (lf_init σ_136 (szo σ_117) o_116) (fun (σ_141 : ST) => lm σ_141 lim slim 0 0 (some ((some (szo σ_117)), σ_141)))))) else lm σ_117 lim slim 0 0 (bo (pis σ_117 (some t0) 7) (fun (_ : Nat) => bo2 (rd_wrong x0 σ_117 t0) (fun (r_146 : Option Nat) (σ_147 : ST) => lm σ_147 lim slim 0 0 (some (r_146, σ_147)))))))))))))))) else bo (pgi σ (some t0) 7 0) (fun (v_215 : Int32) => bo (ppv σ (some t0) 7 0 (.int (v_215 + (1 : Int32)))) (fun (σ_217 : ST) => lm σ_217 lim slim 1 1 (st_ (aloc σ_217 9 [.int 0] 1) (fun (σ_218 : ST) => lm σ_218 lim slim 0 0 (bo (nm_init σ_218 (szo σ_217) r_5) (fun (σ_223 : ST) => lm σ_223 lim slim 0 0 (some ((some (szo σ_217)), σ_223)))))))))))))))
set_option maxHeartbeats 4000000 in
set_option maxRecDepth 100000 in
theorem mt_X7_operand (l : Launch) (G : GT) {f lo : Nat} (lim : Nat) (slim : Nat) (fo : ST → Nat → Option (Option Nat × ST)) (hfo : ∀ (σ : ST) (t0 : Nat) {r : Option Nat} {u : ST}, fo σ t0 = some (r, u) → CR l cp_ft G yX7_operand (ws_ yX7_operand cX7_operand 4 (some (.object "SpeaksInTurn$Node"))) (rmc f lo (lim - szo σ) (slim - suo σ)) (lim - szo σ) (slim - suo σ) [.ref t0] σ (r, u)) (hal : G.2.2.2.2 = true) (σ : ST) (t0 : Nat) {r : Option Nat} {u : ST} (h : rd_operandB (G.2.2.1 0) lim slim fo σ t0 = some (r, u)) : CR l cp_ft G yX7_operand (ws_ yX7_operand cX7_operand 4 (some (.object "SpeaksInTurn$Node"))) (rmc (f + 10) (lo + 220) (lim - szo σ) (slim - suo σ)) (lim - szo σ) (slim - suo σ) [.ref t0] σ (r, u) := by
  refine m_enterRL hal (Or.inl ⟨_, rfl⟩) (by decide) rfl (lv := [(0, .ref t0)]) rfl ?_
  intro p e s m args below meth c H locs ls Q X h0 hret hP hl
  have hx := X.1.1
  have hb := X.1.2.1
  have hown := X.1.2.2.2.1
  have hts := X.1.2.2.2.2
  unfold rd_operandB at h
  refine lv_aload_n hx hb dX7_operand_0 rfl (lv_at hl 0 rfl) ?_
  have hlm_1 := lm_in h
  have h := lm_k h
  obtain ⟨a_2, e_3, h⟩ := bo_ex h
  obtain ⟨r_5, e_4, h⟩ := bo_ex h
  refine W.le fun z1 z2 => ?_
  refine r_calliL hal h0 (r_runP (rest := []) X hP (pis_self e_3) lk_7 (mt_X7_here l G σ t0 e_4) (cwV 0 hts (lw_V q754 q756 qs15 q125 q757) rfl rfl rfl ⟨rfl, cdX7_here⟩ (rm_lx (f := 0) (lo := 0) (f2 := f + 10) (lo2 := lo + 220) rfl rfl rfl rfl (by omega) (by omega))) rfl hl.1 rfl (Nat.le_of_ble_eq_true rfl) dX7_operand_1 (lim_h0 hal hP h0 z1 z2 hlm_1 rfl rfl)) hP (fun H locs hP => ?_)
  refine lv_istore_n (lv' := [(1, .int r_5), (0, .ref t0)]) hx hb dX7_operand_4 rfl hl (by decide) rfl (fun ls hl => ?_)
  refine lv_aload_n hx hb dX7_operand_5 rfl (lv_at hl 1 rfl) ?_
  refine r_ldk X hal rfl 0 (by decide) rfl dX7_operand_6 ?_
  have hlm_6 := lm_in h
  have h := lm_k h
  obtain ⟨a_7, e_8, h⟩ := bo_ex h
  obtain ⟨r_10, e_9, h⟩ := bo_ex h
  refine W.le fun z1 z2 => ?_
  refine r_calliL hal h0 (r_runP (rest := []) X hP (pis_self e_8) lk_7 (mt_X7_isOne l G 0 (by decide) hal σ t0 e_9) (cwV 1 hts (lw_V q759 q761 qs16 q125 q762) rfl rfl rfl ⟨rfl, cdX7_isOne⟩ (rm_lx (f := 4) (lo := 91) (f2 := f + 10) (lo2 := lo + 220) rfl rfl rfl rfl (by omega) (by omega))) rfl hl.1 rfl (Nat.le_of_ble_eq_true rfl) dX7_operand_8 (lim_h0 hal hP h0 z1 z2 hlm_6 rfl rfl)) hP (fun H locs hP => ?_)
  refine lv_if_eq (tgt := 33) hx hb dX7_operand_11 (by decide) (fun c_11 => ?_) (fun c_11 => ?_)
  · have h := it_t h c_11
    refine lv_iload_n hx hb dX7_operand_33 rfl (lv_at hl 0 rfl) ?_
    refine lv_bipush (v := (33 : Int32)) hx hb dX7_operand_34 (by decide) ?_
    have hK_12 : ∀ (σ_52 : ST) (H : Heap) (locs : List Loc) (ls : Array Slot), rd_operandB_K45 (G.2.2.1 0) lim slim fo σ_52 t0 r_5 = some (r, u) → PS cp_ft G s σ_52 H locs → lv_has ls 4 [(0, .ref t0), (1, .int r_5)] → W p l e (rmc (f + 10) (lo + 220) (lim - szo σ) (slim - suo σ)) s m args below meth c H locs (szo σ_52 - szo σ) (suo σ_52 - suo σ) Q (F0 m 45 ls []) := by
      intro σ_52 H locs ls h hP hl
      unfold rd_operandB_K45 at h
      refine lv_aload_n hx hb dX7_operand_45 rfl (lv_at hl 0 rfl) ?_
      have hlm_53 := lm_in h
      have h := lm_k h
      obtain ⟨a_54, e_55, h⟩ := bo_ex h
      obtain ⟨r_57, σ_58, e_56, h⟩ := bo2_ex h
      refine W.le fun z1 z2 => ?_
      refine r_calliL hal h0 (r_runP (rest := []) X hP (pis_self e_55) lk_7 (mt_X7_opens l G σ_52 t0 e_56) (cwV 0 hts (lw_V q862 q864 qs17 q125 q865) rfl rfl rfl ⟨rfl, cdX7_opens⟩ (rm_lx (f := 0) (lo := 0) (f2 := f + 10) (lo2 := lo + 220) rfl rfl rfl rfl (by omega) (by omega))) rfl hl.1 rfl (Nat.le_of_ble_eq_true rfl) dX7_operand_46 (lim_h0 hal hP h0 z1 z2 hlm_53 rfl rfl)) hP (fun H locs hP => ?_)
      refine lv_if_ne (tgt := 57) hx hb dX7_operand_49 (by decide) (fun c_59 => ?_) (fun c_59 => ?_)
      · have h := it_f h c_59
        refine lv_aload_n hx hb dX7_operand_57 rfl (lv_at hl 0 rfl) ?_
        have hlm_60 := lm_in h
        have h := lm_k h
        obtain ⟨a_61, e_62, h⟩ := bo_ex h
        obtain ⟨r_64, σ_65, e_63, h⟩ := bo2_ex h
        refine W.le fun z1 z2 => ?_
        refine r_callrL hal h0 (r_runP (rest := []) X hP (pis_self e_62) lk_7 (hfo σ_58 t0 e_63) (cwV 0 hts (lw_V q750 q752 qs14 q125 q753) rfl rfl rfl ⟨rfl, cdX7_operand⟩ (rm_lx (f := f + 0) (lo := lo + 0) (f2 := f + 10) (lo2 := lo + 220) rfl rfl rfl rfl (by omega) (by omega))) rfl hl.1 rfl (Nat.le_of_ble_eq_true rfl) dX7_operand_58 (lim_hf hal hP h0 z1 z2 hlm_60 rfl rfl)) hP (fun H locs hP => ?_)
        refine rr_astore_n (lv' := [(2, va_rf r_64), (0, .ref t0), (1, .int r_5)]) hx hb dX7_operand_61 rfl hl (by decide) rfl (fun ls hl => ?_)
        refine lv_aload_n hx hb dX7_operand_62 rfl (lv_at hl 1 rfl) ?_
        refine lv_dup hx hb dX7_operand_63 rfl ?_
        obtain ⟨v_67, e_66, h⟩ := bo_ex h
        refine r_pgi (r := (some t0)) X hP lk_7 2 (Nat.le_of_ble_eq_true rfl) e_66 q692 dX7_operand_64 ?_
        refine lv_iconst (v := (1 : Int32)) hx hb dX7_operand_67 (by decide) ?_
        refine lv_isub hx hb dX7_operand_68 ?_
        obtain ⟨σ_69, e_68, h⟩ := bo_ex h
        refine r_ppv (r := (some t0)) X hP lk_7 2 (Nat.le_of_ble_eq_true rfl) e_68 q692 rfl (tyX7_ok 2 (by decide)) rfl rfl dX7_operand_69 (fun H locs hP => ?_)
        refine W.cur hal hP h0 ?_
        refine lv_aload_n hx hb dX7_operand_72 rfl (lv_at hl 1 rfl) ?_
        obtain ⟨v_71, e_70, h⟩ := bo_ex h
        refine r_pgi (r := (some t0)) X hP lk_7 1 (Nat.le_of_ble_eq_true rfl) e_70 q690 dX7_operand_73 ?_
        refine lv_if_lt (tgt := 81) hx hb dX7_operand_76 (by decide) (fun c_72 => ?_) (fun c_72 => ?_)
        · have h := it_t h c_72
          refine lv_iload_n hx hb dX7_operand_81 rfl (lv_at hl 2 rfl) ?_
          refine lv_bipush (v := (33 : Int32)) hx hb dX7_operand_82 (by decide) ?_
          refine lv_icmp_ne (tgt := 98) hx hb dX7_operand_84 (by decide) (fun c_73 => ?_) (fun c_73 => ?_)
          · have h := it_f h c_73
            have hlm_76 := lm_in h
            have h := lm_k h
            refine r_newL X hal hP h0 11 hlm_76 rfl rfl lk_11 tyX12 tyX12_ok (fs := [.null]) rfl q880 q881 q135 dX7_operand_98 (fun σ_74 H e_75 hP => ?_)
            have h := st_k h e_75
            refine lv_dup hx hb dX7_operand_101 rfl ?_
            refine rr_aload_n hx hb dX7_operand_102 rfl (lv_at hl 0 rfl) ?_
            have hlm_77 := lm_in h
            have h := lm_k h
            obtain ⟨σ_79, e_78, h⟩ := bo_ex h
            refine W.le fun z1 z2 => ?_
            refine r_callvL hal h0 (r_runI (rest := [.ref (szo σ_69)]) X hP (mt_X12_init l G σ_74 (szo σ_69) r_64 e_78) (cwI 1 hts (lw_meth q884) rfl rfl rfl (hts _ q135) (hts _ q882) (hts _ q883) rfl cdX12_init (rm_lx (f := 2) (lo := 32) (f2 := f + 10) (lo2 := lo + 220) rfl rfl rfl rfl (by omega) (by omega))) rfl hl.1 rfl (Nat.le_of_ble_eq_true rfl) dX7_operand_103 (lim_h0 hal hP h0 z1 z2 hlm_77 rfl rfl)) hP (fun H locs hP => ?_)
            refine W.widen (k := lim - szo σ) (n := slim - suo σ) (Nat.sub_le_sub_right (lm_in h).1 _) (Nat.sub_le_sub_right (lm_in h).2 _) ?_
            have h := lm_k h
            exact hret _ _ _ _ _ _ dX7_operand_106 (Option.some.inj h) hP
          · have h := it_t h c_73
            have hlm_82 := lm_in h
            have h := lm_k h
            refine r_newL X hal hP h0 10 hlm_82 rfl rfl lk_10 tyX11 tyX11_ok (fs := [.null]) rfl q870 q871 q134 dX7_operand_87 (fun σ_80 H e_81 hP => ?_)
            have h := st_k h e_81
            refine lv_dup hx hb dX7_operand_90 rfl ?_
            refine rr_aload_n hx hb dX7_operand_91 rfl (lv_at hl 0 rfl) ?_
            have hlm_83 := lm_in h
            have h := lm_k h
            obtain ⟨σ_85, e_84, h⟩ := bo_ex h
            refine W.le fun z1 z2 => ?_
            refine r_callvL hal h0 (r_runI (rest := [.ref (szo σ_69)]) X hP (mt_X11_init l G σ_80 (szo σ_69) r_64 e_84) (cwI 1 hts (lw_meth q874) rfl rfl rfl (hts _ q134) (hts _ q872) (hts _ q873) rfl cdX11_init (rm_lx (f := 2) (lo := 32) (f2 := f + 10) (lo2 := lo + 220) rfl rfl rfl rfl (by omega) (by omega))) rfl hl.1 rfl (Nat.le_of_ble_eq_true rfl) dX7_operand_92 (lim_h0 hal hP h0 z1 z2 hlm_83 rfl rfl)) hP (fun H locs hP => ?_)
            refine lv_goto (tgt := 106) hx hb dX7_operand_95 (by decide) ?_
            refine W.widen (k := lim - szo σ) (n := slim - suo σ) (Nat.sub_le_sub_right (lm_in h).1 _) (Nat.sub_le_sub_right (lm_in h).2 _) ?_
            have h := lm_k h
            exact hret _ _ _ _ _ _ dX7_operand_106 (Option.some.inj h) hP
        · have h := it_f h c_72
          refine lv_null hx hb dX7_operand_79 ?_
          refine W.widen (k := lim - szo σ) (n := slim - suo σ) (Nat.sub_le_sub_right (lm_in h).1 _) (Nat.sub_le_sub_right (lm_in h).2 _) ?_
          have h := lm_k h
          exact hret _ _ _ _ _ _ dX7_operand_80 (Option.some.inj h) hP
      · have h := it_t h c_59
        refine lv_aload_n hx hb dX7_operand_52 rfl (lv_at hl 0 rfl) ?_
        have hlm_86 := lm_in h
        have h := lm_k h
        obtain ⟨a_87, e_88, h⟩ := bo_ex h
        obtain ⟨r_90, σ_91, e_89, h⟩ := bo2_ex h
        refine W.le fun z1 z2 => ?_
        refine r_callrL hal h0 (r_runP (rest := []) X hP (pis_self e_88) lk_7 (mt_X7_wrong l G σ_58 t0 e_89) (cwV 0 hts (lw_V q866 q868 qs18 q125 q869) rfl rfl rfl ⟨rfl, cdX7_wrong⟩ (rm_lx (f := 0) (lo := 0) (f2 := f + 10) (lo2 := lo + 220) rfl rfl rfl rfl (by omega) (by omega))) rfl hl.1 rfl (Nat.le_of_ble_eq_true rfl) dX7_operand_53 (lim_h0 hal hP h0 z1 z2 hlm_86 rfl rfl)) hP (fun H locs hP => ?_)
        refine W.widen (k := lim - szo σ) (n := slim - suo σ) (Nat.sub_le_sub_right (lm_in h).1 _) (Nat.sub_le_sub_right (lm_in h).2 _) ?_
        have h := lm_k h
        exact hret _ _ _ _ _ _ dX7_operand_56 (Option.some.inj h) hP
    refine lv_icmp_eq (tgt := 45) hx hb dX7_operand_36 (by decide) (fun c_92 => ?_) (fun c_92 => ?_)
    · have h := it_t h c_92
      exact hK_12 _ _ _ _ h hP (lv_sub hl [1, 0] rfl)
    · have h := it_f h c_92
      refine lv_iload_n hx hb dX7_operand_39 rfl (lv_at hl 0 rfl) ?_
      refine lv_bipush (v := (45 : Int32)) hx hb dX7_operand_40 (by decide) ?_
      refine lv_icmp_ne (tgt := 107) hx hb dX7_operand_42 (by decide) (fun c_93 => ?_) (fun c_93 => ?_)
      · have h := it_f h c_93
        refine lv_iload_n hx hb dX7_operand_107 rfl (lv_at hl 0 rfl) ?_
        refine lv_bipush (v := (40 : Int32)) hx hb dX7_operand_108 (by decide) ?_
        refine lv_icmp_ne (tgt := 175) hx hb dX7_operand_110 (by decide) (fun c_94 => ?_) (fun c_94 => ?_)
        · have h := it_f h c_94
          refine lv_iconst (v := (0 : Int32)) hx hb dX7_operand_175 (by decide) ?_
          refine lv_istore_n (lv' := [(2, .int (0 : Int32)), (1, .int r_5), (0, .ref t0)]) hx hb dX7_operand_176 rfl hl (by decide) rfl (fun ls hl => ?_)
          refine lv_iconst (v := (0 : Int32)) hx hb dX7_operand_177 (by decide) ?_
          refine lv_istore_n (lv' := [(3, .int (0 : Int32)), (2, .int (0 : Int32)), (1, .int r_5), (0, .ref t0)]) hx hb dX7_operand_178 rfl hl (by decide) rfl (fun ls hl => ?_)
          obtain ⟨o_115, o_116, σ_117, h_118, h⟩ := bo3_ex h
          have hE_119 : ∀ (H : Heap) (locs : List Loc) (ls : Array Slot), PS cp_ft G s σ_117 H locs → lv_has ls 4 [(0, .ref t0), (2, .int o_115), (3, .int o_116)] → W p l e (rmc (f + 10) (lo + 220) (lim - szo σ) (slim - suo σ)) s m args below meth c H locs (szo σ_117 - szo σ) (suo σ_117 - suo σ) Q (F0 m 227 ls []) := by
            intro H locs ls hP hl
            refine lv_iload_n hx hb dX7_operand_227 rfl (lv_at hl 1 rfl) ?_
            refine lv_if_eq (tgt := 245) hx hb dX7_operand_228 (by decide) (fun c_120 => ?_) (fun c_120 => ?_)
            · have h := it_t h c_120
              refine lv_aload_n hx hb dX7_operand_245 rfl (lv_at hl 0 rfl) ?_
              have hlm_121 := lm_in h
              have h := lm_k h
              obtain ⟨a_122, e_123, h⟩ := bo_ex h
              obtain ⟨r_125, σ_126, e_124, h⟩ := bo2_ex h
              refine W.le fun z1 z2 => ?_
              refine r_callrL hal h0 (r_runP (rest := []) X hP (pis_self e_123) lk_7 (mt_X7_wrong l G σ_117 t0 e_124) (cwV 0 hts (lw_V q866 q868 qs18 q125 q869) rfl rfl rfl ⟨rfl, cdX7_wrong⟩ (rm_lx (f := 0) (lo := 0) (f2 := f + 10) (lo2 := lo + 220) rfl rfl rfl rfl (by omega) (by omega))) rfl hl.1 rfl (Nat.le_of_ble_eq_true rfl) dX7_operand_246 (lim_h0 hal hP h0 z1 z2 hlm_121 rfl rfl)) hP (fun H locs hP => ?_)
              refine lv_goto (tgt := 260) hx hb dX7_operand_249 (by decide) ?_
              refine W.widen (k := lim - szo σ) (n := slim - suo σ) (Nat.sub_le_sub_right (lm_in h).1 _) (Nat.sub_le_sub_right (lm_in h).2 _) ?_
              have h := lm_k h
              exact hret _ _ _ _ _ _ dX7_operand_260 (Option.some.inj h) hP
            · have h := it_f h c_120
              refine lv_aload_n hx hb dX7_operand_231 rfl (lv_at hl 0 rfl) ?_
              have hlm_127 := lm_in h
              have h := lm_k h
              obtain ⟨a_128, e_129, h⟩ := bo_ex h
              obtain ⟨r_131, e_130, h⟩ := bo_ex h
              refine W.le fun z1 z2 => ?_
              refine r_calliL hal h0 (r_runP (rest := []) X hP (pis_self e_129) lk_7 (mt_X7_here l G σ_117 t0 e_130) (cwV 0 hts (lw_V q754 q756 qs15 q125 q757) rfl rfl rfl ⟨rfl, cdX7_here⟩ (rm_lx (f := 0) (lo := 0) (f2 := f + 10) (lo2 := lo + 220) rfl rfl rfl rfl (by omega) (by omega))) rfl hl.1 rfl (Nat.le_of_ble_eq_true rfl) dX7_operand_232 (lim_h0 hal hP h0 z1 z2 hlm_127 rfl rfl)) hP (fun H locs hP => ?_)
              refine lv_bipush (v := (48 : Int32)) hx hb dX7_operand_235 (by decide) ?_
              refine lv_bipush (v := (57 : Int32)) hx hb dX7_operand_237 (by decide) ?_
              have hlm_132 := lm_in h
              have h := lm_k h
              obtain ⟨r_134, e_133, h⟩ := bo_ex h
              refine W.le fun z1 z2 => ?_
              refine r_calliL hal h0 (r_runSN (rest := []) X hP (mt_X0_in l G σ_117 r_131 (48 : Int32) (57 : Int32) e_133) ⟨va_cnB 3 hts (lw_meth q398) rfl rfl rfl (X.2.2.1 _ q890 rfl) (hts _ q110) cdX0_in (rm_lx (f := 0) (lo := 0) (f2 := f + 10) (lo2 := lo + 220) rfl rfl rfl rfl (by omega) (by omega)), hts _ q397, trivial⟩ rfl hl.1 rfl (Nat.le_of_ble_eq_true rfl) dX7_operand_239 (lim_h0 hal hP h0 z1 z2 hlm_132 rfl rfl)) hP (fun H locs hP => ?_)
              refine lv_if_eq (tgt := 252) hx hb dX7_operand_242 (by decide) (fun c_135 => ?_) (fun c_135 => ?_)
              · have h := it_t h c_135
                have hlm_138 := lm_in h
                have h := lm_k h
                refine r_newL X hal hP h0 12 hlm_138 rfl rfl lk_12 tyX13 tyX13_ok (fs := [.int 0]) rfl q891 q892 q136 dX7_operand_252 (fun σ_136 H e_137 hP => ?_)
                have h := st_k h e_137
                refine lv_dup hx hb dX7_operand_255 rfl ?_
                refine lv_iload_n hx hb dX7_operand_256 rfl (lv_at hl 2 rfl) ?_
                have hlm_139 := lm_in h
                have h := lm_k h
                obtain ⟨σ_141, e_140, h⟩ := bo_ex h
                refine W.le fun z1 z2 => ?_
                refine r_callvL hal h0 (r_runI (rest := [.ref (szo σ_117)]) X hP (mt_X13_init l G σ_136 (szo σ_117) o_116 e_140) (cwI 1 hts (lw_meth q895) rfl rfl rfl (hts _ q136) (hts _ q893) (hts _ q894) rfl cdX13_init (rm_lx (f := 2) (lo := 32) (f2 := f + 10) (lo2 := lo + 220) rfl rfl rfl rfl (by omega) (by omega))) rfl hl.1 rfl (Nat.le_of_ble_eq_true rfl) dX7_operand_257 (lim_h0 hal hP h0 z1 z2 hlm_139 rfl rfl)) hP (fun H locs hP => ?_)
                refine W.widen (k := lim - szo σ) (n := slim - suo σ) (Nat.sub_le_sub_right (lm_in h).1 _) (Nat.sub_le_sub_right (lm_in h).2 _) ?_
                have h := lm_k h
                exact hret _ _ _ _ _ _ dX7_operand_260 (Option.some.inj h) hP
              · have h := it_f h c_135
                refine lv_aload_n hx hb dX7_operand_245 rfl (lv_at hl 0 rfl) ?_
                have hlm_142 := lm_in h
                have h := lm_k h
                obtain ⟨a_143, e_144, h⟩ := bo_ex h
                obtain ⟨r_146, σ_147, e_145, h⟩ := bo2_ex h
                refine W.le fun z1 z2 => ?_
                refine r_callrL hal h0 (r_runP (rest := []) X hP (pis_self e_144) lk_7 (mt_X7_wrong l G σ_117 t0 e_145) (cwV 0 hts (lw_V q866 q868 qs18 q125 q869) rfl rfl rfl ⟨rfl, cdX7_wrong⟩ (rm_lx (f := 0) (lo := 0) (f2 := f + 10) (lo2 := lo + 220) rfl rfl rfl rfl (by omega) (by omega))) rfl hl.1 rfl (Nat.le_of_ble_eq_true rfl) dX7_operand_246 (lim_h0 hal hP h0 z1 z2 hlm_142 rfl rfl)) hP (fun H locs hP => ?_)
                refine lv_goto (tgt := 260) hx hb dX7_operand_249 (by decide) ?_
                refine W.widen (k := lim - szo σ) (n := slim - suo σ) (Nat.sub_le_sub_right (lm_in h).1 _) (Nat.sub_le_sub_right (lm_in h).2 _) ?_
                have h := lm_k h
                exact hret _ _ _ _ _ _ dX7_operand_260 (Option.some.inj h) hP
          have hL_114 : ∀ (n : Nat) (w_148 : Int32) (w_149 : Int32) (σ_150 : ST) (H : Heap) (locs : List Loc) (ls : Array Slot), wl3 (rd_operandB_B179 (G.2.2.1 0) lim slim fo t0) n w_148 w_149 σ_150 = some (o_115, o_116, σ_117) → PS cp_ft G s σ_150 H locs → lv_has ls 4 [(0, .ref t0), (2, .int w_148), (3, .int w_149)] → W p l e (rmc (f + 10) (lo + 220) (lim - szo σ) (slim - suo σ)) s m args below meth c H locs (szo σ_150 - szo σ) (suo σ_150 - suo σ) Q (F0 m 179 ls []) := by
            intro n
            induction n with
            | zero => intro w_148 w_149 σ_150 H locs ls h_151; cases h_151
            | succ n ih =>
              intro w_148 w_149 σ_150 H locs ls h_151 hP hl
              have h_151 : rd_operandB_B179 (G.2.2.1 0) lim slim fo t0 (wl3 (rd_operandB_B179 (G.2.2.1 0) lim slim fo t0) n) w_148 w_149 σ_150 = some _ := h_151
              generalize wl3 (rd_operandB_B179 (G.2.2.1 0) lim slim fo t0) n = rc_152 at h_151 ih
              unfold rd_operandB_B179 at h_151
              refine lv_iload_n hx hb dX7_operand_179 rfl (lv_at hl 1 rfl) ?_
              refine lv_iconst (v := (4 : Int32)) hx hb dX7_operand_180 (by decide) ?_
              refine lv_icmp_ge (tgt := 227) hx hb dX7_operand_181 (by decide) (fun c_153 => ?_) (fun c_153 => ?_)
              · have h_151 := it_t h_151 c_153
                obtain ⟨rfl, rfl, rfl⟩ := so3 h_151
                exact hE_119 _ _ _ hP (lv_sub hl [0, 1, 2] rfl)
              · have h_151 := it_f h_151 c_153
                refine lv_aload_n hx hb dX7_operand_184 rfl (lv_at hl 0 rfl) ?_
                have hlm_154 := lm_in h_151
                have h_151 := lm_k h_151
                obtain ⟨a_155, e_156, h_151⟩ := bo_ex h_151
                obtain ⟨r_158, e_157, h_151⟩ := bo_ex h_151
                refine W.le fun z1 z2 => ?_
                refine r_calliL hal h0 (r_runP (rest := []) X hP (pis_self e_156) lk_7 (mt_X7_here l G σ_150 t0 e_157) (cwV 0 hts (lw_V q754 q756 qs15 q125 q757) rfl rfl rfl ⟨rfl, cdX7_here⟩ (rm_lx (f := 0) (lo := 0) (f2 := f + 10) (lo2 := lo + 220) rfl rfl rfl rfl (by omega) (by omega))) rfl hl.1 rfl (Nat.le_of_ble_eq_true rfl) dX7_operand_185 (lim_h0 hal hP h0 z1 z2 hlm_154 rfl rfl)) hP (fun H locs hP => ?_)
                refine lv_bipush (v := (48 : Int32)) hx hb dX7_operand_188 (by decide) ?_
                refine lv_bipush (v := (57 : Int32)) hx hb dX7_operand_190 (by decide) ?_
                have hlm_159 := lm_in h_151
                have h_151 := lm_k h_151
                obtain ⟨r_161, e_160, h_151⟩ := bo_ex h_151
                refine W.le fun z1 z2 => ?_
                refine r_calliL hal h0 (r_runSN (rest := []) X hP (mt_X0_in l G σ_150 r_158 (48 : Int32) (57 : Int32) e_160) ⟨va_cnB 3 hts (lw_meth q398) rfl rfl rfl (X.2.2.1 _ q890 rfl) (hts _ q110) cdX0_in (rm_lx (f := 0) (lo := 0) (f2 := f + 10) (lo2 := lo + 220) rfl rfl rfl rfl (by omega) (by omega)), hts _ q397, trivial⟩ rfl hl.1 rfl (Nat.le_of_ble_eq_true rfl) dX7_operand_192 (lim_h0 hal hP h0 z1 z2 hlm_159 rfl rfl)) hP (fun H locs hP => ?_)
                refine lv_if_eq (tgt := 227) hx hb dX7_operand_195 (by decide) (fun c_162 => ?_) (fun c_162 => ?_)
                · have h_151 := it_t h_151 c_162
                  obtain ⟨rfl, rfl, rfl⟩ := so3 h_151
                  exact hE_119 _ _ _ hP (lv_sub hl [0, 1, 2] rfl)
                · have h_151 := it_f h_151 c_162
                  refine lv_bipush (v := (10 : Int32)) hx hb dX7_operand_198 (by decide) ?_
                  refine lv_iload_n hx hb dX7_operand_200 rfl (lv_at hl 2 rfl) ?_
                  refine lv_imul hx hb dX7_operand_201 ?_
                  refine lv_aload_n hx hb dX7_operand_202 rfl (lv_at hl 0 rfl) ?_
                  have hlm_163 := lm_in h_151
                  have h_151 := lm_k h_151
                  obtain ⟨a_164, e_165, h_151⟩ := bo_ex h_151
                  obtain ⟨r_167, e_166, h_151⟩ := bo_ex h_151
                  refine W.le fun z1 z2 => ?_
                  refine r_calliL hal h0 (r_runP (rest := [.int ((10 : Int32) * w_149)]) X hP (pis_self e_165) lk_7 (mt_X7_here l G σ_150 t0 e_166) (cwV 0 hts (lw_V q754 q756 qs15 q125 q757) rfl rfl rfl ⟨rfl, cdX7_here⟩ (rm_lx (f := 0) (lo := 0) (f2 := f + 10) (lo2 := lo + 220) rfl rfl rfl rfl (by omega) (by omega))) rfl hl.1 rfl (Nat.le_of_ble_eq_true rfl) dX7_operand_203 (lim_h0 hal hP h0 z1 z2 hlm_163 rfl rfl)) hP (fun H locs hP => ?_)
                  refine lv_iadd hx hb dX7_operand_206 ?_
                  refine lv_bipush (v := (48 : Int32)) hx hb dX7_operand_207 (by decide) ?_
                  refine lv_isub hx hb dX7_operand_209 ?_
                  refine lv_istore_n (lv' := [(3, .int ((((10 : Int32) * w_149) + r_167) - (48 : Int32))), (0, .ref t0), (2, .int w_148)]) hx hb dX7_operand_210 rfl hl (by decide) rfl (fun ls hl => ?_)
                  refine lv_iinc (v := (w_148 + (1 : Int32))) (lv' := [(2, .int (w_148 + (1 : Int32))), (3, .int ((((10 : Int32) * w_149) + r_167) - (48 : Int32))), (0, .ref t0)]) hx hb dX7_operand_211 hl (k := 2) rfl rfl (by decide) rfl (fun ls hl => ?_)
                  refine lv_aload_n hx hb dX7_operand_214 rfl (lv_at hl 2 rfl) ?_
                  refine lv_dup hx hb dX7_operand_215 rfl ?_
                  obtain ⟨v_169, e_168, h_151⟩ := bo_ex h_151
                  refine r_pgi (r := (some t0)) X hP lk_7 0 (Nat.le_of_ble_eq_true rfl) e_168 q689 dX7_operand_216 ?_
                  refine lv_iconst (v := (1 : Int32)) hx hb dX7_operand_219 (by decide) ?_
                  refine lv_iadd hx hb dX7_operand_220 ?_
                  obtain ⟨σ_171, e_170, h_151⟩ := bo_ex h_151
                  refine r_ppv (r := (some t0)) X hP lk_7 0 (Nat.le_of_ble_eq_true rfl) e_170 q689 rfl (tyX7_ok 0 (by decide)) rfl rfl dX7_operand_221 (fun H locs hP => ?_)
                  refine W.cur hal hP h0 ?_
                  refine lv_goto (tgt := 179) hx hb dX7_operand_224 (by decide) ?_
                  exact ih _ _ _ _ _ _ h_151 hP (lv_sub hl [2, 0, 1] rfl)
          exact hL_114 _ _ _ _ _ _ _ h_118 hP (lv_sub hl [3, 1, 0] rfl)
        · have h := it_t h c_94
          refine lv_aload_n hx hb dX7_operand_113 rfl (lv_at hl 1 rfl) ?_
          have hlm_172 := lm_in h
          have h := lm_k h
          obtain ⟨a_173, e_174, h⟩ := bo_ex h
          obtain ⟨r_176, σ_177, e_175, h⟩ := bo2_ex h
          refine W.le fun z1 z2 => ?_
          refine r_calliL hal h0 (r_runP (rest := []) X hP (pis_self e_174) lk_7 (mt_X7_opens l G σ t0 e_175) (cwV 0 hts (lw_V q862 q864 qs17 q125 q865) rfl rfl rfl ⟨rfl, cdX7_opens⟩ (rm_lx (f := 0) (lo := 0) (f2 := f + 10) (lo2 := lo + 220) rfl rfl rfl rfl (by omega) (by omega))) rfl hl.1 rfl (Nat.le_of_ble_eq_true rfl) dX7_operand_114 (lim_h0 hal hP h0 z1 z2 hlm_172 rfl rfl)) hP (fun H locs hP => ?_)
          refine lv_if_ne (tgt := 125) hx hb dX7_operand_117 (by decide) (fun c_178 => ?_) (fun c_178 => ?_)
          · have h := it_f h c_178
            refine lv_aload_n hx hb dX7_operand_125 rfl (lv_at hl 1 rfl) ?_
            have hlm_179 := lm_in h
            have h := lm_k h
            obtain ⟨a_180, e_181, h⟩ := bo_ex h
            obtain ⟨r_183, σ_184, e_182, h⟩ := bo2_ex h
            refine W.le fun z1 z2 => ?_
            refine r_callrL hal h0 (r_runP (rest := []) X hP (pis_self e_181) lk_7 (mt_X7_either l G lim slim fo hfo hal σ_177 t0 e_182) (cwV 0 hts (lw_V q730 q732 qs9 q125 q733) rfl rfl rfl ⟨rfl, cdX7_either⟩ (rm_lx (f := f + 9) (lo := lo + 199) (f2 := f + 10) (lo2 := lo + 220) rfl rfl rfl rfl (by omega) (by omega))) rfl hl.1 rfl (Nat.le_of_ble_eq_true rfl) dX7_operand_126 (lim_hf hal hP h0 z1 z2 hlm_179 rfl rfl)) hP (fun H locs hP => ?_)
            refine rr_astore_n (lv' := [(2, va_rf r_183), (1, .int r_5), (0, .ref t0)]) hx hb dX7_operand_129 rfl hl (by decide) rfl (fun ls hl => ?_)
            refine lv_aload_n hx hb dX7_operand_130 rfl (lv_at hl 2 rfl) ?_
            obtain ⟨v_186, e_185, h⟩ := bo_ex h
            refine r_pgi (r := (some t0)) X hP lk_7 1 (Nat.le_of_ble_eq_true rfl) e_185 q690 dX7_operand_131 ?_
            refine lv_if_lt (tgt := 139) hx hb dX7_operand_134 (by decide) (fun c_187 => ?_) (fun c_187 => ?_)
            · have h := it_t h c_187
              refine lv_aload_n hx hb dX7_operand_139 rfl (lv_at hl 2 rfl) ?_
              have hlm_188 := lm_in h
              have h := lm_k h
              obtain ⟨a_189, e_190, h⟩ := bo_ex h
              obtain ⟨r_192, e_191, h⟩ := bo_ex h
              refine W.le fun z1 z2 => ?_
              refine r_calliL hal h0 (r_runP (rest := []) X hP (pis_self e_190) lk_7 (mt_X7_here l G σ_184 t0 e_191) (cwV 0 hts (lw_V q754 q756 qs15 q125 q757) rfl rfl rfl ⟨rfl, cdX7_here⟩ (rm_lx (f := 0) (lo := 0) (f2 := f + 10) (lo2 := lo + 220) rfl rfl rfl rfl (by omega) (by omega))) rfl hl.1 rfl (Nat.le_of_ble_eq_true rfl) dX7_operand_140 (lim_h0 hal hP h0 z1 z2 hlm_188 rfl rfl)) hP (fun H locs hP => ?_)
              refine lv_bipush (v := (41 : Int32)) hx hb dX7_operand_143 (by decide) ?_
              refine lv_icmp_eq (tgt := 153) hx hb dX7_operand_145 (by decide) (fun c_193 => ?_) (fun c_193 => ?_)
              · have h := it_t h c_193
                refine lv_aload_n hx hb dX7_operand_153 rfl (lv_at hl 2 rfl) ?_
                refine lv_dup hx hb dX7_operand_154 rfl ?_
                obtain ⟨v_195, e_194, h⟩ := bo_ex h
                refine r_pgi (r := (some t0)) X hP lk_7 0 (Nat.le_of_ble_eq_true rfl) e_194 q689 dX7_operand_155 ?_
                refine lv_iconst (v := (1 : Int32)) hx hb dX7_operand_158 (by decide) ?_
                refine lv_iadd hx hb dX7_operand_159 ?_
                obtain ⟨σ_197, e_196, h⟩ := bo_ex h
                refine r_ppv (r := (some t0)) X hP lk_7 0 (Nat.le_of_ble_eq_true rfl) e_196 q689 rfl (tyX7_ok 0 (by decide)) rfl rfl dX7_operand_160 (fun H locs hP => ?_)
                refine W.cur hal hP h0 ?_
                refine lv_aload_n hx hb dX7_operand_163 rfl (lv_at hl 2 rfl) ?_
                refine lv_dup hx hb dX7_operand_164 rfl ?_
                obtain ⟨v_199, e_198, h⟩ := bo_ex h
                refine r_pgi (r := (some t0)) X hP lk_7 2 (Nat.le_of_ble_eq_true rfl) e_198 q692 dX7_operand_165 ?_
                refine lv_iconst (v := (1 : Int32)) hx hb dX7_operand_168 (by decide) ?_
                refine lv_isub hx hb dX7_operand_169 ?_
                obtain ⟨σ_201, e_200, h⟩ := bo_ex h
                refine r_ppv (r := (some t0)) X hP lk_7 2 (Nat.le_of_ble_eq_true rfl) e_200 q692 rfl (tyX7_ok 2 (by decide)) rfl rfl dX7_operand_170 (fun H locs hP => ?_)
                refine W.cur hal hP h0 ?_
                refine rr_aload_n hx hb dX7_operand_173 rfl (lv_at hl 0 rfl) ?_
                refine W.widen (k := lim - szo σ) (n := slim - suo σ) (Nat.sub_le_sub_right (lm_in h).1 _) (Nat.sub_le_sub_right (lm_in h).2 _) ?_
                have h := lm_k h
                exact hret _ _ _ _ _ _ dX7_operand_174 (Option.some.inj h) hP
              · have h := it_f h c_193
                refine lv_aload_n hx hb dX7_operand_148 rfl (lv_at hl 2 rfl) ?_
                have hlm_202 := lm_in h
                have h := lm_k h
                obtain ⟨a_203, e_204, h⟩ := bo_ex h
                obtain ⟨r_206, σ_207, e_205, h⟩ := bo2_ex h
                refine W.le fun z1 z2 => ?_
                refine r_callrL hal h0 (r_runP (rest := []) X hP (pis_self e_204) lk_7 (mt_X7_wrong l G σ_184 t0 e_205) (cwV 0 hts (lw_V q866 q868 qs18 q125 q869) rfl rfl rfl ⟨rfl, cdX7_wrong⟩ (rm_lx (f := 0) (lo := 0) (f2 := f + 10) (lo2 := lo + 220) rfl rfl rfl rfl (by omega) (by omega))) rfl hl.1 rfl (Nat.le_of_ble_eq_true rfl) dX7_operand_149 (lim_h0 hal hP h0 z1 z2 hlm_202 rfl rfl)) hP (fun H locs hP => ?_)
                refine W.widen (k := lim - szo σ) (n := slim - suo σ) (Nat.sub_le_sub_right (lm_in h).1 _) (Nat.sub_le_sub_right (lm_in h).2 _) ?_
                have h := lm_k h
                exact hret _ _ _ _ _ _ dX7_operand_152 (Option.some.inj h) hP
            · have h := it_f h c_187
              refine lv_null hx hb dX7_operand_137 ?_
              refine W.widen (k := lim - szo σ) (n := slim - suo σ) (Nat.sub_le_sub_right (lm_in h).1 _) (Nat.sub_le_sub_right (lm_in h).2 _) ?_
              have h := lm_k h
              exact hret _ _ _ _ _ _ dX7_operand_138 (Option.some.inj h) hP
          · have h := it_t h c_178
            refine lv_aload_n hx hb dX7_operand_120 rfl (lv_at hl 1 rfl) ?_
            have hlm_208 := lm_in h
            have h := lm_k h
            obtain ⟨a_209, e_210, h⟩ := bo_ex h
            obtain ⟨r_212, σ_213, e_211, h⟩ := bo2_ex h
            refine W.le fun z1 z2 => ?_
            refine r_callrL hal h0 (r_runP (rest := []) X hP (pis_self e_210) lk_7 (mt_X7_wrong l G σ_177 t0 e_211) (cwV 0 hts (lw_V q866 q868 qs18 q125 q869) rfl rfl rfl ⟨rfl, cdX7_wrong⟩ (rm_lx (f := 0) (lo := 0) (f2 := f + 10) (lo2 := lo + 220) rfl rfl rfl rfl (by omega) (by omega))) rfl hl.1 rfl (Nat.le_of_ble_eq_true rfl) dX7_operand_121 (lim_h0 hal hP h0 z1 z2 hlm_208 rfl rfl)) hP (fun H locs hP => ?_)
            refine W.widen (k := lim - szo σ) (n := slim - suo σ) (Nat.sub_le_sub_right (lm_in h).1 _) (Nat.sub_le_sub_right (lm_in h).2 _) ?_
            have h := lm_k h
            exact hret _ _ _ _ _ _ dX7_operand_124 (Option.some.inj h) hP
      · have h := it_t h c_93
        exact hK_12 _ _ _ _ h hP (lv_sub hl [1, 0] rfl)
  · have h := it_f h c_11
    refine lv_aload_n hx hb dX7_operand_14 rfl (lv_at hl 1 rfl) ?_
    refine lv_dup hx hb dX7_operand_15 rfl ?_
    obtain ⟨v_215, e_214, h⟩ := bo_ex h
    refine r_pgi (r := (some t0)) X hP lk_7 0 (Nat.le_of_ble_eq_true rfl) e_214 q689 dX7_operand_16 ?_
    refine lv_iconst (v := (1 : Int32)) hx hb dX7_operand_19 (by decide) ?_
    refine lv_iadd hx hb dX7_operand_20 ?_
    obtain ⟨σ_217, e_216, h⟩ := bo_ex h
    refine r_ppv (r := (some t0)) X hP lk_7 0 (Nat.le_of_ble_eq_true rfl) e_216 q689 rfl (tyX7_ok 0 (by decide)) rfl rfl dX7_operand_21 (fun H locs hP => ?_)
    refine W.cur hal hP h0 ?_
    have hlm_220 := lm_in h
    have h := lm_k h
    refine r_newL X hal hP h0 9 hlm_220 rfl rfl lk_9 tyX10 tyX10_ok (fs := [.int 0]) rfl q849 q850 q133 dX7_operand_24 (fun σ_218 H e_219 hP => ?_)
    have h := st_k h e_219
    refine lv_dup hx hb dX7_operand_27 rfl ?_
    refine lv_iload_n hx hb dX7_operand_28 rfl (lv_at hl 0 rfl) ?_
    have hlm_221 := lm_in h
    have h := lm_k h
    obtain ⟨σ_223, e_222, h⟩ := bo_ex h
    refine W.le fun z1 z2 => ?_
    refine r_callvL hal h0 (r_runI (rest := [.ref (szo σ_217)]) X hP (mt_X10_init l G σ_218 (szo σ_217) r_5 e_222) (cwI 1 hts (lw_meth q853) rfl rfl rfl (hts _ q133) (hts _ q851) (hts _ q852) rfl cdX10_init (rm_lx (f := 2) (lo := 32) (f2 := f + 10) (lo2 := lo + 220) rfl rfl rfl rfl (by omega) (by omega))) rfl hl.1 rfl (Nat.le_of_ble_eq_true rfl) dX7_operand_29 (lim_h0 hal hP h0 z1 z2 hlm_221 rfl rfl)) hP (fun H locs hP => ?_)
    refine W.widen (k := lim - szo σ) (n := slim - suo σ) (Nat.sub_le_sub_right (lm_in h).1 _) (Nat.sub_le_sub_right (lm_in h).2 _) ?_
    have h := lm_k h
    exact hret _ _ _ _ _ _ dX7_operand_32 (Option.some.inj h) hP
def rd_operand (x0 lim slim : Nat) : Nat → ST → Nat → Option (Option Nat × ST)
  | 0, _, _ => none
  | n + 1, σ, t0 => rd_operandB x0 lim slim (rd_operand x0 lim slim n) σ t0
theorem mt_operand (l : Launch) (G : GT) (lim slim : Nat) (hal : G.2.2.2.2 = true) : ∀ (n : Nat) (σ : ST) (t0 : Nat) {r : Option Nat} {u : ST}, rd_operand (G.2.2.1 0) lim slim n σ t0 = some (r, u) → CR l cp_ft G yX7_operand (ws_ yX7_operand cX7_operand 4 (some (.object "SpeaksInTurn$Node"))) (rmc (n * 10) (n * 220) (lim - szo σ) (slim - suo σ)) (lim - szo σ) (slim - suo σ) [.ref t0] σ (r, u) := by
  intro n
  induction n with
  | zero => intro σ t0 r u h; cases h
  | succ n ih =>
    intro σ t0 r u h
    have h1 := mt_X7_operand l G lim slim (rd_operand (G.2.2.1 0) lim slim n) (fun σ t0 => ih σ t0) hal σ t0 h
    rw [Nat.succ_mul, Nat.succ_mul]
    exact h1
def rd_ei (x0 lim slim : Nat) (σ : ST) (t0 : Nat) : Option (Option Nat × ST) := rd_either x0 lim slim (rd_operand x0 lim slim 8) σ t0
theorem mt_rei (l : Launch) (G : GT) (lim slim : Nat) (hal : G.2.2.2.2 = true) (σ : ST) (t0 : Nat) {r : Option Nat} {u : ST} (h : rd_ei (G.2.2.1 0) lim slim σ t0 = some (r, u)) : CR l cp_ft G yX7_either (ws_ yX7_either cX7_either 2 (some (.object "SpeaksInTurn$Node"))) (rmc 89 1959 (lim - szo σ) (slim - suo σ)) (lim - szo σ) (slim - suo σ) [.ref t0] σ (r, u) :=
  mt_X7_either l G lim slim (rd_operand (G.2.2.1 0) lim slim 8) (mt_operand l G lim slim hal 8) hal σ t0 h
def rd_line (x0 : Nat) (lim : Nat) (slim : Nat) (σ : ST) (t0 : Nat) : Option (Option Nat × ST) :=
  lm σ lim slim 1 3 (st_ (aloc σ 8 [.null, .null, .null] 3) (fun (σ_1 : ST) => lm σ_1 lim slim 0 0 (bo (ln_init σ_1 (szo σ)) (fun (_ : Unit) => lm σ_1 lim slim 0 0 (bo (pis σ_1 (some t0) 7) (fun (_ : Nat) => bo2 (rd_ei x0 lim slim σ_1 t0) (fun (r_10 : Option Nat) (σ_11 : ST) => bo (ppv σ_11 (some (szo σ)) 8 1 (va_rf r_10)) (fun (σ_13 : ST) => bo (pgi σ_13 (some t0) 7 1) (fun (v_15 : Int32) => (if 0 ≤ v_15 then lm σ_13 lim slim 0 0 (some ((some (szo σ)), σ_13)) else lm σ_13 lim slim 0 0 (bo (pis σ_13 (some t0) 7) (fun (_ : Nat) => bo (rd_here x0 σ_13 t0) (fun (r_21 : Int32) => (if r_21 = (63 : Int32) then bo (pgi σ_13 (some t0) 7 0) (fun (v_24 : Int32) => bo (ppv σ_13 (some t0) 7 0 (.int (v_24 + (1 : Int32)))) (fun (σ_26 : ST) => bo (pgr σ_26 (some (szo σ)) 8 1) (fun (v_28 : Option Nat) => bo (ppv σ_26 (some (szo σ)) 8 0 (va_rf v_28)) (fun (σ_30 : ST) => lm σ_30 lim slim 0 0 (bo (pis σ_30 (some t0) 7) (fun (_ : Nat) => bo2 (rd_ei x0 lim slim σ_30 t0) (fun (r_35 : Option Nat) (σ_36 : ST) => bo (ppv σ_36 (some (szo σ)) 8 1 (va_rf r_35)) (fun (σ_38 : ST) => lm σ_38 lim slim 0 0 (some ((some (szo σ)), σ_38)))))))))) else lm σ_13 lim slim 0 0 (some ((some (szo σ)), σ_13))))))))))))))))
set_option maxHeartbeats 4000000 in
set_option maxRecDepth 100000 in
theorem mt_X7_line (l : Launch) (G : GT) (lim : Nat) (slim : Nat) (hal : G.2.2.2.2 = true) (σ : ST) (t0 : Nat) {r : Option Nat} {u : ST} (h : rd_line (G.2.2.1 0) lim slim σ t0 = some (r, u)) : CR l cp_ft G yX7_line (ws_ yX7_line cX7_line 2 (some (.object "SpeaksInTurn$Line"))) (rmc 90 1980 (lim - szo σ) (slim - suo σ)) (lim - szo σ) (slim - suo σ) [.ref t0] σ (r, u) := by
  refine m_enterRL hal (Or.inl ⟨_, rfl⟩) (by decide) rfl (lv := [(0, .ref t0)]) rfl ?_
  intro p e s m args below meth c H locs ls Q X h0 hret hP hl
  have hx := X.1.1
  have hb := X.1.2.1
  have hown := X.1.2.2.2.1
  have hts := X.1.2.2.2.2
  unfold rd_line at h
  have hlm_3 := lm_in h
  have h := lm_k h
  refine r_newL X hal hP h0 8 hlm_3 rfl rfl lk_8 tyX8 tyX8_ok (fs := [.null, .null, .null]) rfl q711 q712 q126 dX7_line_0 (fun σ_1 H e_2 hP => ?_)
  have h := st_k h e_2
  refine lv_dup hx hb dX7_line_3 rfl ?_
  have hlm_4 := lm_in h
  have h := lm_k h
  obtain ⟨_, e_5, h⟩ := bo_ex h
  refine W.le fun z1 z2 => ?_
  refine r_callvL hal h0 (r_runIN (rest := [.ref (szo σ)]) X hP (mt_X8_init l G σ_1 (szo σ) e_5) ⟨va_cnB 0 hts (lw_meth q715) rfl rfl rfl (X.2.2.1 _ q713 rfl) (hts _ q126) cdX8_init (rm_lx (f := 1) (lo := 12) (f2 := 90) (lo2 := 1980) rfl rfl rfl rfl (by omega) (by omega)), rfl, hts _ q714⟩ rfl hl.1 rfl (Nat.le_of_ble_eq_true rfl) dX7_line_4 (lim_h0 hal hP h0 z1 z2 hlm_4 rfl rfl)) hP (fun H locs hP => ?_)
  refine lv_astore_n (lv' := [(1, .ref (szo σ)), (0, .ref t0)]) hx hb dX7_line_7 rfl hl (by decide) rfl (fun ls hl => ?_)
  refine lv_aload_n hx hb dX7_line_8 rfl (lv_at hl 0 rfl) ?_
  refine lv_aload_n hx hb dX7_line_9 rfl (lv_at hl 1 rfl) ?_
  have hlm_6 := lm_in h
  have h := lm_k h
  obtain ⟨a_7, e_8, h⟩ := bo_ex h
  obtain ⟨r_10, σ_11, e_9, h⟩ := bo2_ex h
  refine W.le fun z1 z2 => ?_
  refine r_callrL hal h0 (r_runP (rest := [.ref (szo σ)]) X hP (pis_self e_8) lk_7 (mt_rei l G lim slim hal σ_1 t0 e_9) (cwV 0 hts (lw_V q730 q732 qs9 q125 q733) rfl rfl rfl ⟨rfl, cdX7_either⟩ (rm_lx (f := 89) (lo := 1959) (f2 := 90) (lo2 := 1980) rfl rfl rfl rfl (by omega) (by omega))) rfl hl.1 rfl (Nat.le_of_ble_eq_true rfl) dX7_line_10 (lim_hf hal hP h0 z1 z2 hlm_6 rfl rfl)) hP (fun H locs hP => ?_)
  obtain ⟨σ_13, e_12, h⟩ := bo_ex h
  refine r_ppvN (r := (some (szo σ))) X hP lk_8 1 (Nat.le_of_ble_eq_true rfl) e_12 q719 rfl (tyX8_ok 1 (by decide)) (rr_nar _ r_10) (rr_fit _ r_10) dX7_line_13 (fun H locs hP => ?_)
  refine W.cur hal hP h0 ?_
  refine lv_aload_n hx hb dX7_line_16 rfl (lv_at hl 1 rfl) ?_
  obtain ⟨v_15, e_14, h⟩ := bo_ex h
  refine r_pgi (r := (some t0)) X hP lk_7 1 (Nat.le_of_ble_eq_true rfl) e_14 q690 dX7_line_17 ?_
  refine lv_if_ge (tgt := 32) hx hb dX7_line_20 (by decide) (fun c_16 => ?_) (fun c_16 => ?_)
  · have h := it_t h c_16
    refine lv_aload_n hx hb dX7_line_32 rfl (lv_at hl 0 rfl) ?_
    refine W.widen (k := lim - szo σ) (n := slim - suo σ) (Nat.sub_le_sub_right (lm_in h).1 _) (Nat.sub_le_sub_right (lm_in h).2 _) ?_
    have h := lm_k h
    exact hret _ _ _ _ _ _ dX7_line_33 (Option.some.inj h) hP
  · have h := it_f h c_16
    refine lv_aload_n hx hb dX7_line_23 rfl (lv_at hl 1 rfl) ?_
    have hlm_17 := lm_in h
    have h := lm_k h
    obtain ⟨a_18, e_19, h⟩ := bo_ex h
    obtain ⟨r_21, e_20, h⟩ := bo_ex h
    refine W.le fun z1 z2 => ?_
    refine r_calliL hal h0 (r_runP (rest := []) X hP (pis_self e_19) lk_7 (mt_X7_here l G σ_13 t0 e_20) (cwV 0 hts (lw_V q754 q756 qs15 q125 q757) rfl rfl rfl ⟨rfl, cdX7_here⟩ (rm_lx (f := 0) (lo := 0) (f2 := 90) (lo2 := 1980) rfl rfl rfl rfl (by omega) (by omega))) rfl hl.1 rfl (Nat.le_of_ble_eq_true rfl) dX7_line_24 (lim_h0 hal hP h0 z1 z2 hlm_17 rfl rfl)) hP (fun H locs hP => ?_)
    refine lv_bipush (v := (63 : Int32)) hx hb dX7_line_27 (by decide) ?_
    refine lv_icmp_eq (tgt := 34) hx hb dX7_line_29 (by decide) (fun c_22 => ?_) (fun c_22 => ?_)
    · have h := it_t h c_22
      refine lv_aload_n hx hb dX7_line_34 rfl (lv_at hl 1 rfl) ?_
      refine lv_dup hx hb dX7_line_35 rfl ?_
      obtain ⟨v_24, e_23, h⟩ := bo_ex h
      refine r_pgi (r := (some t0)) X hP lk_7 0 (Nat.le_of_ble_eq_true rfl) e_23 q689 dX7_line_36 ?_
      refine lv_iconst (v := (1 : Int32)) hx hb dX7_line_39 (by decide) ?_
      refine lv_iadd hx hb dX7_line_40 ?_
      obtain ⟨σ_26, e_25, h⟩ := bo_ex h
      refine r_ppv (r := (some t0)) X hP lk_7 0 (Nat.le_of_ble_eq_true rfl) e_25 q689 rfl (tyX7_ok 0 (by decide)) rfl rfl dX7_line_41 (fun H locs hP => ?_)
      refine W.cur hal hP h0 ?_
      refine lv_aload_n hx hb dX7_line_44 rfl (lv_at hl 0 rfl) ?_
      refine lv_aload_n hx hb dX7_line_45 rfl (lv_at hl 0 rfl) ?_
      obtain ⟨v_28, e_27, h⟩ := bo_ex h
      refine r_pgrN (r := (some (szo σ))) X hP lk_8 1 (Nat.le_of_ble_eq_true rfl) e_27 q719 dX7_line_46 ?_
      obtain ⟨σ_30, e_29, h⟩ := bo_ex h
      refine r_ppvN (r := (some (szo σ))) X hP lk_8 0 (Nat.le_of_ble_eq_true rfl) e_29 q717 rfl (tyX8_ok 0 (by decide)) (rr_nar _ v_28) (rr_fit _ v_28) dX7_line_49 (fun H locs hP => ?_)
      refine W.cur hal hP h0 ?_
      refine lv_aload_n hx hb dX7_line_52 rfl (lv_at hl 0 rfl) ?_
      refine lv_aload_n hx hb dX7_line_53 rfl (lv_at hl 1 rfl) ?_
      have hlm_31 := lm_in h
      have h := lm_k h
      obtain ⟨a_32, e_33, h⟩ := bo_ex h
      obtain ⟨r_35, σ_36, e_34, h⟩ := bo2_ex h
      refine W.le fun z1 z2 => ?_
      refine r_callrL hal h0 (r_runP (rest := [.ref (szo σ)]) X hP (pis_self e_33) lk_7 (mt_rei l G lim slim hal σ_30 t0 e_34) (cwV 0 hts (lw_V q730 q732 qs9 q125 q733) rfl rfl rfl ⟨rfl, cdX7_either⟩ (rm_lx (f := 89) (lo := 1959) (f2 := 90) (lo2 := 1980) rfl rfl rfl rfl (by omega) (by omega))) rfl hl.1 rfl (Nat.le_of_ble_eq_true rfl) dX7_line_54 (lim_hf hal hP h0 z1 z2 hlm_31 rfl rfl)) hP (fun H locs hP => ?_)
      obtain ⟨σ_38, e_37, h⟩ := bo_ex h
      refine r_ppvN (r := (some (szo σ))) X hP lk_8 1 (Nat.le_of_ble_eq_true rfl) e_37 q719 rfl (tyX8_ok 1 (by decide)) (rr_nar _ r_35) (rr_fit _ r_35) dX7_line_57 (fun H locs hP => ?_)
      refine W.cur hal hP h0 ?_
      refine lv_aload_n hx hb dX7_line_60 rfl (lv_at hl 0 rfl) ?_
      refine W.widen (k := lim - szo σ) (n := slim - suo σ) (Nat.sub_le_sub_right (lm_in h).1 _) (Nat.sub_le_sub_right (lm_in h).2 _) ?_
      have h := lm_k h
      exact hret _ _ _ _ _ _ dX7_line_61 (Option.some.inj h) hP
    · have h := it_f h c_22
      refine lv_aload_n hx hb dX7_line_32 rfl (lv_at hl 0 rfl) ?_
      refine W.widen (k := lim - szo σ) (n := slim - suo σ) (Nat.sub_le_sub_right (lm_in h).1 _) (Nat.sub_le_sub_right (lm_in h).2 _) ?_
      have h := lm_k h
      exact hret _ _ _ _ _ _ dX7_line_33 (Option.some.inj h) hP
def rd_lines_B7 (x0 : Nat) (lim : Nat) (slim : Nat) (l0 : Nat) (l1 : Option Nat) (rc7 : Option Nat → ST → Option (ST)) (w2 : Option Nat) (σ : ST) : Option (ST) :=
  bo (pgi σ (some l0) 7 1) (fun (v_8 : Int32) => (if 0 ≤ v_8 then some (σ) else lm σ lim slim 0 0 (bo (pis σ (some l0) 7) (fun (_ : Nat) => bo (rd_here x0 σ l0) (fun (r_14 : Int32) => (if r_14 = (59 : Int32) then bo (pgi σ (some l0) 7 0) (fun (v_17 : Int32) => bo (ppv σ (some l0) 7 0 (.int (v_17 + (1 : Int32)))) (fun (σ_19 : ST) => lm σ_19 lim slim 0 0 (bo (pis σ_19 (some l0) 7) (fun (_ : Nat) => bo2 (rd_line x0 lim slim σ_19 l0) (fun (r_24 : Option Nat) (σ_25 : ST) => bo (ppv σ_25 w2 8 2 (va_rf r_24)) (fun (σ_27 : ST) => bo (pgr σ_27 w2 8 2) (fun (v_29 : Option Nat) => (rc7 v_29 σ_27)))))))) else some (σ)))))))
def rd_lines (x0 : Nat) (lim : Nat) (slim : Nat) (σ : ST) (t0 : Nat) : Option (Option Nat × ST) :=
  lm σ lim slim 0 0 (bo (pis σ (some t0) 7) (fun (_ : Nat) => bo2 (rd_line x0 lim slim σ t0) (fun (r_5 : Option Nat) (σ_6 : ST) => bo (wl2 (rd_lines_B7 x0 lim slim t0 r_5) FU r_5 σ_6) (fun (σ_31 : ST) => bo (pgi σ_31 (some t0) 7 1) (fun (v_35 : Int32) => (if 0 ≤ v_35 then lm σ_31 lim slim 0 0 (some (r_5, σ_31)) else bo (pgi σ_31 (some t0) 7 0) (fun (v_38 : Int32) => bo (pgr σ_31 (some t0) 7 3) (fun (v_40 : Option Nat) => ez v_40 x0 ((if (gI σ_31 0 13) ≤ v_38 then lm σ_31 lim slim 0 0 (some (r_5, σ_31)) else bo (pgi σ_31 (some t0) 7 0) (fun (v_44 : Int32) => bo (ppv σ_31 (some t0) 7 1 (.int v_44)) (fun (σ_46 : ST) => lm σ_46 lim slim 0 0 (some (r_5, σ_46))))))))))))))
set_option maxHeartbeats 4000000 in
set_option maxRecDepth 100000 in
theorem mt_X7_lines (l : Launch) (G : GT) (lim : Nat) (slim : Nat) (hal : G.2.2.2.2 = true) (σ : ST) (t0 : Nat) {r : Option Nat} {u : ST} (h : rd_lines (G.2.2.1 0) lim slim σ t0 = some (r, u)) : CR l cp_ft G yX7_lines (ws_ yX7_lines cX7_lines 3 (some (.object "SpeaksInTurn$Line"))) (rmc 91 2001 (lim - szo σ) (slim - suo σ)) (lim - szo σ) (slim - suo σ) [.ref t0] σ (r, u) := by
  refine m_enterRL hal (Or.inl ⟨_, rfl⟩) (by decide) rfl (lv := [(0, .ref t0)]) rfl ?_
  intro p e s m args below meth c H locs ls Q X h0 hret hP hl
  have hx := X.1.1
  have hb := X.1.2.1
  have hown := X.1.2.2.2.1
  have hts := X.1.2.2.2.2
  unfold rd_lines at h
  refine lv_aload_n hx hb dX7_lines_0 rfl (lv_at hl 0 rfl) ?_
  have hlm_1 := lm_in h
  have h := lm_k h
  obtain ⟨a_2, e_3, h⟩ := bo_ex h
  obtain ⟨r_5, σ_6, e_4, h⟩ := bo2_ex h
  refine W.le fun z1 z2 => ?_
  refine r_callrL hal h0 (r_runP (rest := []) X hP (pis_self e_3) lk_7 (mt_X7_line l G lim slim hal σ t0 e_4) (cwV 0 hts (lw_V q707 q709 qs8 q125 q710) rfl rfl rfl ⟨rfl, cdX7_line⟩ (rm_lx (f := 90) (lo := 1980) (f2 := 91) (lo2 := 2001) rfl rfl rfl rfl (by omega) (by omega))) rfl hl.1 rfl (Nat.le_of_ble_eq_true rfl) dX7_lines_1 (lim_hf hal hP h0 z1 z2 hlm_1 rfl rfl)) hP (fun H locs hP => ?_)
  refine rr_astore_n (lv' := [(1, va_rf r_5), (0, .ref t0)]) hx hb dX7_lines_4 rfl hl (by decide) rfl (fun ls hl => ?_)
  refine rr_aload_n hx hb dX7_lines_5 rfl (lv_at hl 0 rfl) ?_
  refine rr_astore_n (lv' := [(2, va_rf r_5), (1, va_rf r_5), (0, .ref t0)]) hx hb dX7_lines_6 rfl hl (by decide) (by simp [rr_cat]) (fun ls hl => ?_)
  obtain ⟨σ_31, h_32, h⟩ := bo_ex h
  have hE_33 : ∀ (H : Heap) (locs : List Loc) (ls : Array Slot), PS cp_ft G s σ_31 H locs → lv_has ls 3 [(0, .ref t0), (1, va_rf r_5)] → W p l e (rmc 91 2001 (lim - szo σ) (slim - suo σ)) s m args below meth c H locs (szo σ_31 - szo σ) (suo σ_31 - suo σ) Q (F0 m 49 ls []) := by
    intro H locs ls hP hl
    refine lv_aload_n hx hb dX7_lines_49 rfl (lv_at hl 0 rfl) ?_
    obtain ⟨v_35, e_34, h⟩ := bo_ex h
    refine r_pgi (r := (some t0)) X hP lk_7 1 (Nat.le_of_ble_eq_true rfl) e_34 q690 dX7_lines_50 ?_
    refine lv_if_ge (tgt := 78) hx hb dX7_lines_53 (by decide) (fun c_36 => ?_) (fun c_36 => ?_)
    · have h := it_t h c_36
      refine rr_aload_n hx hb dX7_lines_78 rfl (lv_at hl 1 rfl) ?_
      refine W.widen (k := lim - szo σ) (n := slim - suo σ) (Nat.sub_le_sub_right (lm_in h).1 _) (Nat.sub_le_sub_right (lm_in h).2 _) ?_
      have h := lm_k h
      exact hret _ _ _ _ _ _ dX7_lines_79 (Option.some.inj h) hP
    · have h := it_f h c_36
      refine lv_aload_n hx hb dX7_lines_56 rfl (lv_at hl 0 rfl) ?_
      obtain ⟨v_38, e_37, h⟩ := bo_ex h
      refine r_pgi (r := (some t0)) X hP lk_7 0 (Nat.le_of_ble_eq_true rfl) e_37 q689 dX7_lines_57 ?_
      refine lv_aload_n hx hb dX7_lines_60 rfl (lv_at hl 0 rfl) ?_
      obtain ⟨v_40, e_39, h⟩ := bo_ex h
      refine r_pgr (r := (some t0)) X hP lk_7 3 (Nat.le_of_ble_eq_true rfl) e_39 q693 dX7_lines_61 ?_
      have hz_41 := ez_eq h
      have h := ez_k h
      rw [rr_known hz_41]
      refine r_getiN X hP 0 cp_c0 lk_0 13 (Nat.le_of_ble_eq_true rfl) q301 cp_f13 dX7_lines_64 ?_
      refine lv_icmp_ge (tgt := 78) hx hb dX7_lines_67 (by decide) (fun c_42 => ?_) (fun c_42 => ?_)
      · have h := it_t h c_42
        refine rr_aload_n hx hb dX7_lines_78 rfl (lv_at hl 1 rfl) ?_
        refine W.widen (k := lim - szo σ) (n := slim - suo σ) (Nat.sub_le_sub_right (lm_in h).1 _) (Nat.sub_le_sub_right (lm_in h).2 _) ?_
        have h := lm_k h
        exact hret _ _ _ _ _ _ dX7_lines_79 (Option.some.inj h) hP
      · have h := it_f h c_42
        refine lv_aload_n hx hb dX7_lines_70 rfl (lv_at hl 0 rfl) ?_
        refine lv_aload_n hx hb dX7_lines_71 rfl (lv_at hl 0 rfl) ?_
        obtain ⟨v_44, e_43, h⟩ := bo_ex h
        refine r_pgi (r := (some t0)) X hP lk_7 0 (Nat.le_of_ble_eq_true rfl) e_43 q689 dX7_lines_72 ?_
        obtain ⟨σ_46, e_45, h⟩ := bo_ex h
        refine r_ppv (r := (some t0)) X hP lk_7 1 (Nat.le_of_ble_eq_true rfl) e_45 q690 rfl (tyX7_ok 1 (by decide)) rfl rfl dX7_lines_75 (fun H locs hP => ?_)
        refine W.cur hal hP h0 ?_
        refine rr_aload_n hx hb dX7_lines_78 rfl (lv_at hl 1 rfl) ?_
        refine W.widen (k := lim - szo σ) (n := slim - suo σ) (Nat.sub_le_sub_right (lm_in h).1 _) (Nat.sub_le_sub_right (lm_in h).2 _) ?_
        have h := lm_k h
        exact hret _ _ _ _ _ _ dX7_lines_79 (Option.some.inj h) hP
  have hL_30 : ∀ (n : Nat) (w_47 : Option Nat) (σ_48 : ST) (H : Heap) (locs : List Loc) (ls : Array Slot), wl2 (rd_lines_B7 (G.2.2.1 0) lim slim t0 r_5) n w_47 σ_48 = some σ_31 → PS cp_ft G s σ_48 H locs → lv_has ls 3 [(0, .ref t0), (1, va_rf r_5), (2, va_rf w_47)] → W p l e (rmc 91 2001 (lim - szo σ) (slim - suo σ)) s m args below meth c H locs (szo σ_48 - szo σ) (suo σ_48 - suo σ) Q (F0 m 7 ls []) := by
    intro n
    induction n with
    | zero => intro w_47 σ_48 H locs ls h_49; cases h_49
    | succ n ih =>
      intro w_47 σ_48 H locs ls h_49 hP hl
      have h_49 : rd_lines_B7 (G.2.2.1 0) lim slim t0 r_5 (wl2 (rd_lines_B7 (G.2.2.1 0) lim slim t0 r_5) n) w_47 σ_48 = some _ := h_49
      generalize wl2 (rd_lines_B7 (G.2.2.1 0) lim slim t0 r_5) n = rc_50 at h_49 ih
      unfold rd_lines_B7 at h_49
      refine lv_aload_n hx hb dX7_lines_7 rfl (lv_at hl 0 rfl) ?_
      obtain ⟨v_52, e_51, h_49⟩ := bo_ex h_49
      refine r_pgi (r := (some t0)) X hP lk_7 1 (Nat.le_of_ble_eq_true rfl) e_51 q690 dX7_lines_8 ?_
      refine lv_if_ge (tgt := 49) hx hb dX7_lines_11 (by decide) (fun c_53 => ?_) (fun c_53 => ?_)
      · have h_49 := it_t h_49 c_53
        obtain rfl := Option.some.inj h_49
        exact hE_33 _ _ _ hP (lv_sub hl [0, 1] rfl)
      · have h_49 := it_f h_49 c_53
        refine lv_aload_n hx hb dX7_lines_14 rfl (lv_at hl 0 rfl) ?_
        have hlm_54 := lm_in h_49
        have h_49 := lm_k h_49
        obtain ⟨a_55, e_56, h_49⟩ := bo_ex h_49
        obtain ⟨r_58, e_57, h_49⟩ := bo_ex h_49
        refine W.le fun z1 z2 => ?_
        refine r_calliL hal h0 (r_runP (rest := []) X hP (pis_self e_56) lk_7 (mt_X7_here l G σ_48 t0 e_57) (cwV 0 hts (lw_V q754 q756 qs15 q125 q757) rfl rfl rfl ⟨rfl, cdX7_here⟩ (rm_lx (f := 0) (lo := 0) (f2 := 91) (lo2 := 2001) rfl rfl rfl rfl (by omega) (by omega))) rfl hl.1 rfl (Nat.le_of_ble_eq_true rfl) dX7_lines_15 (lim_h0 hal hP h0 z1 z2 hlm_54 rfl rfl)) hP (fun H locs hP => ?_)
        refine lv_bipush (v := (59 : Int32)) hx hb dX7_lines_18 (by decide) ?_
        refine lv_icmp_ne (tgt := 49) hx hb dX7_lines_20 (by decide) (fun c_59 => ?_) (fun c_59 => ?_)
        · have h_49 := it_f h_49 c_59
          obtain rfl := Option.some.inj h_49
          exact hE_33 _ _ _ hP (lv_sub hl [0, 1] rfl)
        · have h_49 := it_t h_49 c_59
          refine lv_aload_n hx hb dX7_lines_23 rfl (lv_at hl 0 rfl) ?_
          refine lv_dup hx hb dX7_lines_24 rfl ?_
          obtain ⟨v_61, e_60, h_49⟩ := bo_ex h_49
          refine r_pgi (r := (some t0)) X hP lk_7 0 (Nat.le_of_ble_eq_true rfl) e_60 q689 dX7_lines_25 ?_
          refine lv_iconst (v := (1 : Int32)) hx hb dX7_lines_28 (by decide) ?_
          refine lv_iadd hx hb dX7_lines_29 ?_
          obtain ⟨σ_63, e_62, h_49⟩ := bo_ex h_49
          refine r_ppv (r := (some t0)) X hP lk_7 0 (Nat.le_of_ble_eq_true rfl) e_62 q689 rfl (tyX7_ok 0 (by decide)) rfl rfl dX7_lines_30 (fun H locs hP => ?_)
          refine W.cur hal hP h0 ?_
          refine rr_aload_n hx hb dX7_lines_33 rfl (lv_at hl 2 rfl) ?_
          refine lv_aload_n hx hb dX7_lines_34 rfl (lv_at hl 0 rfl) ?_
          have hlm_64 := lm_in h_49
          have h_49 := lm_k h_49
          obtain ⟨a_65, e_66, h_49⟩ := bo_ex h_49
          obtain ⟨r_68, σ_69, e_67, h_49⟩ := bo2_ex h_49
          refine W.le fun z1 z2 => ?_
          refine r_callrL hal h0 (r_runP (rest := [va_rf w_47]) X hP (pis_self e_66) lk_7 (mt_X7_line l G lim slim hal σ_63 t0 e_67) (cwV 0 hts (lw_V q707 q709 qs8 q125 q710) rfl rfl rfl ⟨rfl, cdX7_line⟩ (rm_lx (f := 90) (lo := 1980) (f2 := 91) (lo2 := 2001) rfl rfl rfl rfl (by omega) (by omega))) rfl hl.1 rfl (by simp only [List.map_cons, List.map_nil, rr_cat, List.sum_cons, List.sum_nil]; exact Nat.le_of_ble_eq_true rfl) dX7_lines_35 (lim_hf hal hP h0 z1 z2 hlm_64 rfl rfl)) hP (fun H locs hP => ?_)
          obtain ⟨σ_71, e_70, h_49⟩ := bo_ex h_49
          refine r_ppvN (r := w_47) X hP lk_8 2 (Nat.le_of_ble_eq_true rfl) e_70 q721 rfl (tyX8_ok 2 (by decide)) (rr_nar _ r_68) (rr_fit _ r_68) dX7_lines_38 (fun H locs hP => ?_)
          refine W.cur hal hP h0 ?_
          refine rr_aload_n hx hb dX7_lines_41 rfl (lv_at hl 2 rfl) ?_
          obtain ⟨v_73, e_72, h_49⟩ := bo_ex h_49
          refine r_pgrN (r := w_47) X hP lk_8 2 (Nat.le_of_ble_eq_true rfl) e_72 q721 dX7_lines_42 ?_
          refine rr_astore_n (lv' := [(2, va_rf v_73), (0, .ref t0), (1, va_rf r_5)]) hx hb dX7_lines_45 rfl hl (by decide) (by simp [rr_cat]) (fun ls hl => ?_)
          refine lv_goto (tgt := 7) hx hb dX7_lines_46 (by decide) ?_
          exact ih _ _ _ _ _ h_49 hP (lv_sub hl [1, 2, 0] rfl)
  exact hL_30 _ _ _ _ _ _ h_32 hP (lv_sub hl [2, 1, 0] rfl)
def rd_linesT (x0 : Nat) (σ : ST) (t0 : Nat) : Option (Option Nat × ST) := rd_lines x0 (szo σ + 2000) (suo σ + 8000) σ t0
theorem mt_linesT (l : Launch) (G : GT) (hal : G.2.2.2.2 = true) (σ : ST) (t0 : Nat) {r : Option Nat} {u : ST} (h : rd_linesT (G.2.2.1 0) σ t0 = some (r, u)) : CR l cp_ft G yX7_lines (ws_ yX7_lines cX7_lines 3 (some (.object "SpeaksInTurn$Line"))) (rmc 91 2001 2000 8000) 2000 8000 [.ref t0] σ (r, u) := by
  have h1 := mt_X7_lines l G (szo σ + 2000) (suo σ + 8000) hal σ t0 h
  rw [Nat.add_sub_cancel_left, Nat.add_sub_cancel_left] at h1
  exact h1
def cp_law (x0 : Nat) (σ : ST)  : Option (Int32 × ST) :=
  st_ (aloc σ 7 [.int 0, .int 0, .int 0, .null] 4) (fun (σ_1 : ST) => bo (rd_init x0 σ_1 (szo σ)) (fun (σ_4 : ST) => bo (pis σ_4 (some (szo σ)) 7) (fun (_ : Nat) => bo2 (rd_linesT x0 σ_4 (szo σ)) (fun (r_8 : Option Nat) (σ_9 : ST) => st_ (pI σ_9 0 13 (0 : Int32)) (fun (σ_10 : ST) => bo (pgi σ_10 (some (szo σ)) 7 1) (fun (v_13 : Int32) => (if v_13 < 0 then st_ (pR σ_10 0 14 r_8) (fun (σ_15 : ST) => some ((1 : Int32), σ_15)) else bo (pgi σ_10 (some (szo σ)) 7 1) (fun (v_18 : Int32) => some (((-100 : Int32) - v_18), σ_10)))))))))
abbrev rm_X0_law : Room := rmc 92 2023 2001 8004
set_option maxHeartbeats 4000000 in
set_option maxRecDepth 100000 in
theorem mt_X0_law (l : Launch) (G : GT) (hal : G.2.2.2.2 = true) (σ : ST)  {r : Int32} {u : ST} (h : cp_law (G.2.2.1 0) σ = some (r, u)) : CI l cp_ft G yX0_law (ws_ yX0_law cX0_law 3 (some .int)) rm_X0_law 2001 8004 [.ref (G.2.2.1 0)] σ (r, u) := by
  refine m_enterI (by decide) rfl (lv := [(0, .ref (G.2.2.1 0))]) rfl ?_
  intro p e s m args below meth c H locs ls Q X hret hP hl
  have hx := X.1.1
  have hb := X.1.2.1
  have hown := X.1.2.2.2.1
  have hts := X.1.2.2.2.2
  unfold cp_law at h
  refine r_new X hal hP 7 lk_7 tyX7 tyX7_ok (fs := [.int 0, .int 0, .int 0, .null]) rfl q683 q684 q125 (Nat.le_of_ble_eq_true rfl) (Nat.le_of_ble_eq_true rfl) dX0_law_0 (fun σ_1 H e_2 hP => ?_)
  have h := st_k h e_2
  refine lv_dup hx hb dX0_law_3 rfl ?_
  refine lv_aload_n hx hb dX0_law_4 rfl (lv_at hl 0 rfl) ?_
  obtain ⟨σ_4, e_3, h⟩ := bo_ex h
  refine r_callv (r_runIN (rest := [.ref (szo σ)]) X hP (mt_X7_init l G σ_1 (szo σ) e_3) ⟨va_cnB 1 hts (lw_meth q687) rfl rfl rfl (X.2.2.1 _ q685 rfl) (hts _ q125) cdX7_init ⟨Nat.le_of_ble_eq_true rfl, Nat.le_of_ble_eq_true rfl⟩, rfl, hts _ q686⟩ rfl hl.1 rfl (Nat.le_of_ble_eq_true rfl) dX0_law_5 ⟨Nat.le_of_ble_eq_true rfl, Nat.le_of_ble_eq_true rfl⟩) hP (fun H locs hP => ?_)
  refine lv_astore_n (lv' := [(1, .ref (szo σ)), (0, .ref (G.2.2.1 0))]) hx hb dX0_law_8 rfl hl (by decide) rfl (fun ls hl => ?_)
  refine lv_aload_n hx hb dX0_law_9 rfl (lv_at hl 0 rfl) ?_
  obtain ⟨a_5, e_6, h⟩ := bo_ex h
  obtain ⟨r_8, σ_9, e_7, h⟩ := bo2_ex h
  refine r_callrM (r_runP (rest := []) X hP (pis_self e_6) lk_7 (mt_linesT l G hal σ_4 (szo σ) e_7) (cwV 0 hts (lw_V q703 q704 q705 q125 q706) rfl rfl rfl ⟨rfl, cdX7_lines⟩ ⟨Nat.le_of_ble_eq_true rfl, Nat.le_of_ble_eq_true rfl⟩) rfl hl.1 rfl (Nat.le_of_ble_eq_true rfl) dX0_law_10 ⟨Nat.le_of_ble_eq_true rfl, Nat.le_of_ble_eq_true rfl⟩) hP (fun H locs hP => ?_)
  refine rr_astore_n (lv' := [(2, va_rf r_8), (1, .ref (szo σ)), (0, .ref (G.2.2.1 0))]) hx hb dX0_law_13 rfl hl (by decide) rfl (fun ls hl => ?_)
  refine lv_aload_n hx hb dX0_law_14 rfl (lv_at hl 2 rfl) ?_
  refine lv_iconst (v := (0 : Int32)) hx hb dX0_law_15 (by decide) ?_
  refine r_puti X cp_w hP 0 cp_c0 lk_0 13 (Nat.le_of_ble_eq_true rfl) q302 cp_f13 rfl (tyX0_ok 13 (by decide)) rfl rfl dX0_law_16 (fun σ_10 H locs e_11 hP => ?_)
  have h := st_k h e_11
  refine lv_aload_n hx hb dX0_law_19 rfl (lv_at hl 1 rfl) ?_
  obtain ⟨v_13, e_12, h⟩ := bo_ex h
  refine r_pgiN (r := (some (szo σ))) X hP lk_7 1 (Nat.le_of_ble_eq_true rfl) e_12 q691 dX0_law_20 ?_
  refine lv_if_lt (tgt := 34) hx hb dX0_law_23 (by decide) (fun c_14 => ?_) (fun c_14 => ?_)
  · have h := it_t h c_14
    refine lv_aload_n hx hb dX0_law_34 rfl (lv_at hl 2 rfl) ?_
    refine rr_aload_n hx hb dX0_law_35 rfl (lv_at hl 0 rfl) ?_
    refine r_putr (v := r_8) X cp_w hP 0 cp_c0 lk_0 14 (Nat.le_of_ble_eq_true rfl) q303 cp_f14 rfl (tyX0_ok 14 (by decide)) (rr_nar _ _) (rr_fit _ _) dX0_law_36 (fun σ_15 H locs e_16 hP => ?_)
    have h := st_k h e_16
    refine lv_iconst (v := (1 : Int32)) hx hb dX0_law_39 (by decide) ?_
    refine W.widen (k := 2001) (n := 8004) (Nat.le_of_ble_eq_true rfl) (Nat.le_of_ble_eq_true rfl) ?_
    exact hret _ _ _ _ _ _ dX0_law_40 rfl (Option.some.inj h) hP
  · have h := it_f h c_14
    refine lv_bipush (v := (-100 : Int32)) hx hb dX0_law_26 (by decide) ?_
    refine lv_aload_n hx hb dX0_law_28 rfl (lv_at hl 1 rfl) ?_
    obtain ⟨v_18, e_17, h⟩ := bo_ex h
    refine r_pgiN (r := (some (szo σ))) X hP lk_7 1 (Nat.le_of_ble_eq_true rfl) e_17 q691 dX0_law_29 ?_
    refine lv_isub hx hb dX0_law_32 ?_
    refine W.widen (k := 2001) (n := 8004) (Nat.le_of_ble_eq_true rfl) (Nat.le_of_ble_eq_true rfl) ?_
    exact hret _ _ _ _ _ _ dX0_law_33 rfl (Option.some.inj h) hP
