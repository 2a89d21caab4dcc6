set_option maxRecDepth 100000
/-- the pool lies below the heap's end -/
def fresh (σ : ST) : Prop := ∀ (a : Nat) (e : va_E), σ.2.2.2.1 a = some e → a < szo σ
theorem pic_fresh {ft : List FC} {G : GT} {σ : ST} {H : Heap} (hal : G.2.2.2.2 = true) (h : Pic ft G σ H) : fresh σ := fun a e ha => by
  have h1 := (h.2.2.1 a e ha).1.lt
  rw [(h.2.2.2 hal).1] at h1
  exact h1
/-- THE PLAIN LAW: every call answers alike, and the relation is kept -/
def OPS (RR : ST → ST → Prop) (x0 : Nat) (ks : Nat → ClassId) : Prop := ∀ σC σT : ST, RR σC σT → fresh σC → OP_person0 RR x0 ks σC σT ∧ OP_thing1 RR x0 ks σC σT ∧ OP_card2 RR x0 ks σC σT ∧ OP_cards3 RR x0 ks σC σT ∧ OP_feed4 RR x0 ks σC σT ∧ OP_law5 RR x0 ks σC σT ∧ OP_set6 RR x0 ks σC σT ∧ OP_mend7 RR x0 ks σC σT ∧ OP_of8 RR x0 ks σC σT ∧ OP_meet9 RR x0 ks σC σT ∧ OP_told10 RR x0 ks σC σT ∧ OP_saying11 RR x0 ks σC σT ∧ OP_took12 RR x0 ks σC σT ∧ OP_did13 RR x0 ks σC σT ∧ OP_first14 RR x0 ks σC σT ∧ OP_rule15 RR x0 ks σC σT ∧ OP_order16 RR x0 ks σC σT ∧ OP_times17 RR x0 ks σC σT ∧ OP_film18 RR x0 ks σC σT ∧ OP_wish19 RR x0 ks σC σT ∧ OP_undo20 RR x0 ks σC σT ∧ OP_redo21 RR x0 ks σC σT ∧ OP_body22 RR x0 ks σC σT ∧ OP_act23 RR x0 ks σC σT ∧ OP_trace24 RR x0 ks σC σT ∧ OP_keep25 RR x0 ks σC σT ∧ OP_row26 RR x0 ks σC σT ∧ OP_put27 RR x0 ks σC σT ∧ OP_element28 RR x0 ks σC σT ∧ OP_shift29 RR x0 ks σC σT ∧ OP_taken30 RR x0 ks σC σT ∧ OP_count31 RR x0 ks σC σT
theorem lw_pl {L j : Nat} (hL : L ≤ 384) (hj : 6 * j + 6 ≤ L) : pl_ L (nI (6 * j)) := by
  have h : ∀ k, k < 6 → vp_in (nI (6 * j) + nI k) L := fun k hk => by
    rw [nI_add]
    exact nI_in (by omega) (by omega)
  exact ⟨nI_in (by omega) (by omega), h 1 (by decide), h 2 (by decide), h 3 (by decide), h 4 (by decide), h 5 (by decide)⟩
theorem lw_j {L j : Nat} (hL : L ≤ 384) (hj : j ≤ 65) (h : ¬ (Int32.ofNat L - (6 : Int32)) < nI (6 * j)) : 6 * j + 6 ≤ L := by
  rw [Int32.lt_iff_toInt_lt, Int32.toInt_sub] at h
  have e1 : (Int32.ofNat L).toInt = (L : Int) := nI_toInt (by omega)
  have e2 : (nI (6 * j)).toInt = ((6 * j : Nat) : Int) := nI_toInt (by omega)
  have e3 : (6 : Int32).toInt = 6 := by decide
  rw [e1, e2, e3, Int.bmod_eq_of_le (by omega) (by omega)] at h
  omega
section LWL
variable {p : Program} {l : Launch} {e : Env} {s : State} {m : MethodId} {below : List Frame} {meth : Method} {c : Code} {H : Heap} {cells slots : Nat} {Q : State → Prop} {b L : Nat} {xs : Nat → Int32} {GC G2 : GT} {σC σT : ST} {ls : Array Slot} {i : Int32} {RR : ST → ST → Prop}
theorem lw_body (K : LC p s m c b L xs GC G2) (hlt : l.stackTraces = false) (hsm : ∀ a0 b0 a1 b1 : ST, RR a0 b0 → sm a1 a0 → sm b1 b0 → RR a1 b1) (hops : OPS RR (GC.2.2.1 0) GC.2.1) (hC : PS cp_ft GC s σC H []) (hT : PS tw_ft G2 s σT H []) (hR : RR σC σT) (hpl : pl_ L i) (hl : lv_has ls 4 [(0, .ref b), (1, .ref (GC.2.2.1 0)), (2, .ref (G2.2.2.1 0)), (3, .int i)]) (hrm : cells + 9000 ≤ room_1.cells ∧ slots + 110000 ≤ room_1.slots) (kk : NX RR p l e s m b below meth c cells slots Q GC G2 ls) : W p l e room_1 s m #[Value.ref b] below meth c H [] cells slots Q (F0 m 27 ls []) := by
  have hx := K.1.1.1
  have hb := K.1.1.2.1
  have hsx := K.2.2.1
  have hbl := K.2.2.2.1
  have hbA : ¬ GC.2.2.2.1 b := fun q => absurd (K.2.2.2.2.1 b q) (Nat.not_le.mpr hbl)
  have hO := hops σC σT hR (pic_fresh K.2.2.2.2.2.2.2 hC.1)
  refine lv_aload_n hx hb dL_law_27 rfl (lv_at hl 0 rfl) ?_
  refine lv_iload_n hx hb dL_law_28 rfl (lv_at hl 3 rfl) ?_
  refine va_sld hx hb hsx hbl hbA hC.2 hpl.1 dL_law_29 ?_
  refine lv_bipush (v := (31 : Int32)) hx hb dL_law_30 (by decide) ?_
  refine lv_iand hx hb dL_law_32 ?_
  by_cases c0 : (xs i.toNatClampNeg &&& (31 : Int32)) = (0 : Int32)
  · refine lv_tableIn (tgt := 176) hx hb dL_law_33 (by rw [c0]; decide) (by rw [c0]; decide) (by rw [c0]; rfl) (by decide) ?_
    exact lw_c0 K hlt hsm hC hT hR hO.1 hpl hl hrm kk
  by_cases c1 : (xs i.toNatClampNeg &&& (31 : Int32)) = (1 : Int32)
  · refine lv_tableIn (tgt := 209) hx hb dL_law_33 (by rw [c1]; decide) (by rw [c1]; decide) (by rw [c1]; rfl) (by decide) ?_
    exact lw_c1 K hlt hsm hC hT hR hO.2.1 hpl hl hrm kk
  by_cases c2 : (xs i.toNatClampNeg &&& (31 : Int32)) = (2 : Int32)
  · refine lv_tableIn (tgt := 242) hx hb dL_law_33 (by rw [c2]; decide) (by rw [c2]; decide) (by rw [c2]; rfl) (by decide) ?_
    exact lw_c2 K hlt hsm hC hT hR hO.2.2.1 hpl hl hrm kk
  by_cases c3 : (xs i.toNatClampNeg &&& (31 : Int32)) = (3 : Int32)
  · refine lv_tableIn (tgt := 285) hx hb dL_law_33 (by rw [c3]; decide) (by rw [c3]; decide) (by rw [c3]; rfl) (by decide) ?_
    exact lw_c3 K hlt hsm hC hT hR hO.2.2.2.1 hpl hl hrm kk
  by_cases c4 : (xs i.toNatClampNeg &&& (31 : Int32)) = (4 : Int32)
  · refine lv_tableIn (tgt := 328) hx hb dL_law_33 (by rw [c4]; decide) (by rw [c4]; decide) (by rw [c4]; rfl) (by decide) ?_
    exact lw_c4 K hlt hsm hC hT hR hO.2.2.2.2.1 hpl hl hrm kk
  by_cases c5 : (xs i.toNatClampNeg &&& (31 : Int32)) = (5 : Int32)
  · refine lv_tableIn (tgt := 351) hx hb dL_law_33 (by rw [c5]; decide) (by rw [c5]; decide) (by rw [c5]; rfl) (by decide) ?_
    exact lw_c5 K hlt hsm hC hT hR hO.2.2.2.2.2.1 hpl hl hrm kk
  by_cases c6 : (xs i.toNatClampNeg &&& (31 : Int32)) = (6 : Int32)
  · refine lv_tableIn (tgt := 364) hx hb dL_law_33 (by rw [c6]; decide) (by rw [c6]; decide) (by rw [c6]; rfl) (by decide) ?_
    exact lw_c6 K hlt hsm hC hT hR hO.2.2.2.2.2.2.1 hpl hl hrm kk
  by_cases c7 : (xs i.toNatClampNeg &&& (31 : Int32)) = (7 : Int32)
  · refine lv_tableIn (tgt := 397) hx hb dL_law_33 (by rw [c7]; decide) (by rw [c7]; decide) (by rw [c7]; rfl) (by decide) ?_
    exact lw_c7 K hlt hsm hC hT hR hO.2.2.2.2.2.2.2.1 hpl hl hrm kk
  by_cases c8 : (xs i.toNatClampNeg &&& (31 : Int32)) = (8 : Int32)
  · refine lv_tableIn (tgt := 440) hx hb dL_law_33 (by rw [c8]; decide) (by rw [c8]; decide) (by rw [c8]; rfl) (by decide) ?_
    exact lw_c8 K hlt hsm hC hT hR hO.2.2.2.2.2.2.2.2.1 hpl hl hrm kk
  by_cases c9 : (xs i.toNatClampNeg &&& (31 : Int32)) = (9 : Int32)
  · refine lv_tableIn (tgt := 473) hx hb dL_law_33 (by rw [c9]; decide) (by rw [c9]; decide) (by rw [c9]; rfl) (by decide) ?_
    exact lw_c9 K hlt hsm hC hT hR hO.2.2.2.2.2.2.2.2.2.1 hpl hl hrm kk
  by_cases c10 : (xs i.toNatClampNeg &&& (31 : Int32)) = (10 : Int32)
  · refine lv_tableIn (tgt := 496) hx hb dL_law_33 (by rw [c10]; decide) (by rw [c10]; decide) (by rw [c10]; rfl) (by decide) ?_
    exact lw_c10 K hlt hsm hC hT hR hO.2.2.2.2.2.2.2.2.2.2.1 hpl hl hrm kk
  by_cases c11 : (xs i.toNatClampNeg &&& (31 : Int32)) = (11 : Int32)
  · refine lv_tableIn (tgt := 519) hx hb dL_law_33 (by rw [c11]; decide) (by rw [c11]; decide) (by rw [c11]; rfl) (by decide) ?_
    exact lw_c11 K hlt hsm hC hT hR hO.2.2.2.2.2.2.2.2.2.2.2.1 hpl hl hrm kk
  by_cases c12 : (xs i.toNatClampNeg &&& (31 : Int32)) = (12 : Int32)
  · refine lv_tableIn (tgt := 552) hx hb dL_law_33 (by rw [c12]; decide) (by rw [c12]; decide) (by rw [c12]; rfl) (by decide) ?_
    exact lw_c12 K hlt hsm hC hT hR hO.2.2.2.2.2.2.2.2.2.2.2.2.1 hpl hl hrm kk
  by_cases c13 : (xs i.toNatClampNeg &&& (31 : Int32)) = (13 : Int32)
  · refine lv_tableIn (tgt := 585) hx hb dL_law_33 (by rw [c13]; decide) (by rw [c13]; decide) (by rw [c13]; rfl) (by decide) ?_
    exact lw_c13 K hlt hsm hC hT hR hO.2.2.2.2.2.2.2.2.2.2.2.2.2.1 hpl hl hrm kk
  by_cases c14 : (xs i.toNatClampNeg &&& (31 : Int32)) = (14 : Int32)
  · refine lv_tableIn (tgt := 618) hx hb dL_law_33 (by rw [c14]; decide) (by rw [c14]; decide) (by rw [c14]; rfl) (by decide) ?_
    exact lw_c14 K hlt hsm hC hT hR hO.2.2.2.2.2.2.2.2.2.2.2.2.2.2.1 hpl hl hrm kk
  by_cases c15 : (xs i.toNatClampNeg &&& (31 : Int32)) = (15 : Int32)
  · refine lv_tableIn (tgt := 651) hx hb dL_law_33 (by rw [c15]; decide) (by rw [c15]; decide) (by rw [c15]; rfl) (by decide) ?_
    exact lw_c15 K hlt hsm hC hT hR hO.2.2.2.2.2.2.2.2.2.2.2.2.2.2.2.1 hpl hl hrm kk
  by_cases c16 : (xs i.toNatClampNeg &&& (31 : Int32)) = (16 : Int32)
  · refine lv_tableIn (tgt := 674) hx hb dL_law_33 (by rw [c16]; decide) (by rw [c16]; decide) (by rw [c16]; rfl) (by decide) ?_
    exact lw_c16 K hlt hsm hC hT hR hO.2.2.2.2.2.2.2.2.2.2.2.2.2.2.2.2.1 hpl hl hrm kk
  by_cases c17 : (xs i.toNatClampNeg &&& (31 : Int32)) = (17 : Int32)
  · refine lv_tableIn (tgt := 697) hx hb dL_law_33 (by rw [c17]; decide) (by rw [c17]; decide) (by rw [c17]; rfl) (by decide) ?_
    exact lw_c17 K hlt hsm hC hT hR hO.2.2.2.2.2.2.2.2.2.2.2.2.2.2.2.2.2.1 hpl hl hrm kk
  by_cases c18 : (xs i.toNatClampNeg &&& (31 : Int32)) = (18 : Int32)
  · refine lv_tableIn (tgt := 720) hx hb dL_law_33 (by rw [c18]; decide) (by rw [c18]; decide) (by rw [c18]; rfl) (by decide) ?_
    exact lw_c18 K hlt hsm hC hT hR hO.2.2.2.2.2.2.2.2.2.2.2.2.2.2.2.2.2.2.1 hpl hl hrm kk
  by_cases c19 : (xs i.toNatClampNeg &&& (31 : Int32)) = (19 : Int32)
  · refine lv_tableIn (tgt := 743) hx hb dL_law_33 (by rw [c19]; decide) (by rw [c19]; decide) (by rw [c19]; rfl) (by decide) ?_
    exact lw_c19 K hlt hsm hC hT hR hO.2.2.2.2.2.2.2.2.2.2.2.2.2.2.2.2.2.2.2.1 hpl hl hrm kk
  by_cases c20 : (xs i.toNatClampNeg &&& (31 : Int32)) = (20 : Int32)
  · refine lv_tableIn (tgt := 776) hx hb dL_law_33 (by rw [c20]; decide) (by rw [c20]; decide) (by rw [c20]; rfl) (by decide) ?_
    exact lw_c20 K hlt hsm hC hT hR hO.2.2.2.2.2.2.2.2.2.2.2.2.2.2.2.2.2.2.2.2.1 hpl hl hrm kk
  by_cases c21 : (xs i.toNatClampNeg &&& (31 : Int32)) = (21 : Int32)
  · refine lv_tableIn (tgt := 789) hx hb dL_law_33 (by rw [c21]; decide) (by rw [c21]; decide) (by rw [c21]; rfl) (by decide) ?_
    exact lw_c21 K hlt hsm hC hT hR hO.2.2.2.2.2.2.2.2.2.2.2.2.2.2.2.2.2.2.2.2.2.1 hpl hl hrm kk
  by_cases c22 : (xs i.toNatClampNeg &&& (31 : Int32)) = (22 : Int32)
  · refine lv_tableIn (tgt := 802) hx hb dL_law_33 (by rw [c22]; decide) (by rw [c22]; decide) (by rw [c22]; rfl) (by decide) ?_
    exact lw_c22 K hlt hsm hC hT hR hO.2.2.2.2.2.2.2.2.2.2.2.2.2.2.2.2.2.2.2.2.2.2.1 hpl hl hrm kk
  by_cases c23 : (xs i.toNatClampNeg &&& (31 : Int32)) = (23 : Int32)
  · refine lv_tableIn (tgt := 825) hx hb dL_law_33 (by rw [c23]; decide) (by rw [c23]; decide) (by rw [c23]; rfl) (by decide) ?_
    exact lw_c23 K hlt hsm hC hT hR hO.2.2.2.2.2.2.2.2.2.2.2.2.2.2.2.2.2.2.2.2.2.2.2.1 hpl hl hrm kk
  by_cases c24 : (xs i.toNatClampNeg &&& (31 : Int32)) = (24 : Int32)
  · refine lv_tableIn (tgt := 868) hx hb dL_law_33 (by rw [c24]; decide) (by rw [c24]; decide) (by rw [c24]; rfl) (by decide) ?_
    exact lw_c24 K hlt hsm hC hT hR hO.2.2.2.2.2.2.2.2.2.2.2.2.2.2.2.2.2.2.2.2.2.2.2.2.1 hpl hl hrm kk
  by_cases c25 : (xs i.toNatClampNeg &&& (31 : Int32)) = (25 : Int32)
  · refine lv_tableIn (tgt := 891) hx hb dL_law_33 (by rw [c25]; decide) (by rw [c25]; decide) (by rw [c25]; rfl) (by decide) ?_
    exact lw_c25 K hlt hsm hC hT hR hO.2.2.2.2.2.2.2.2.2.2.2.2.2.2.2.2.2.2.2.2.2.2.2.2.2.1 hpl hl hrm kk
  by_cases c26 : (xs i.toNatClampNeg &&& (31 : Int32)) = (26 : Int32)
  · refine lv_tableIn (tgt := 924) hx hb dL_law_33 (by rw [c26]; decide) (by rw [c26]; decide) (by rw [c26]; rfl) (by decide) ?_
    exact lw_c26 K hlt hsm hC hT hR hO.2.2.2.2.2.2.2.2.2.2.2.2.2.2.2.2.2.2.2.2.2.2.2.2.2.2.1 hpl hl hrm kk
  by_cases c27 : (xs i.toNatClampNeg &&& (31 : Int32)) = (27 : Int32)
  · refine lv_tableIn (tgt := 967) hx hb dL_law_33 (by rw [c27]; decide) (by rw [c27]; decide) (by rw [c27]; rfl) (by decide) ?_
    exact lw_c27 K hlt hsm hC hT hR hO.2.2.2.2.2.2.2.2.2.2.2.2.2.2.2.2.2.2.2.2.2.2.2.2.2.2.2.1 hpl hl hrm kk
  by_cases c28 : (xs i.toNatClampNeg &&& (31 : Int32)) = (28 : Int32)
  · refine lv_tableIn (tgt := 1040) hx hb dL_law_33 (by rw [c28]; decide) (by rw [c28]; decide) (by rw [c28]; rfl) (by decide) ?_
    exact lw_c28 K hlt hsm hC hT hR hO.2.2.2.2.2.2.2.2.2.2.2.2.2.2.2.2.2.2.2.2.2.2.2.2.2.2.2.2.1 hpl hl hrm kk
  by_cases c29 : (xs i.toNatClampNeg &&& (31 : Int32)) = (29 : Int32)
  · refine lv_tableIn (tgt := 1074) hx hb dL_law_33 (by rw [c29]; decide) (by rw [c29]; decide) (by rw [c29]; rfl) (by decide) ?_
    exact lw_c29 K hlt hsm hC hT hR hO.2.2.2.2.2.2.2.2.2.2.2.2.2.2.2.2.2.2.2.2.2.2.2.2.2.2.2.2.2.1 hpl hl hrm kk
  by_cases c30 : (xs i.toNatClampNeg &&& (31 : Int32)) = (30 : Int32)
  · refine lv_tableIn (tgt := 1137) hx hb dL_law_33 (by rw [c30]; decide) (by rw [c30]; decide) (by rw [c30]; rfl) (by decide) ?_
    exact lw_c30 K hlt hsm hC hT hR hO.2.2.2.2.2.2.2.2.2.2.2.2.2.2.2.2.2.2.2.2.2.2.2.2.2.2.2.2.2.2.1 hpl hl hrm kk
  by_cases c31 : (xs i.toNatClampNeg &&& (31 : Int32)) = (31 : Int32)
  · refine lv_tableIn (tgt := 1170) hx hb dL_law_33 (by rw [c31]; decide) (by rw [c31]; decide) (by rw [c31]; rfl) (by decide) ?_
    exact lw_c31 K hlt hsm hC hT hR hO.2.2.2.2.2.2.2.2.2.2.2.2.2.2.2.2.2.2.2.2.2.2.2.2.2.2.2.2.2.2.2 hpl hl hrm kk
  refine lv_tableOut (tgt := 1193) hx hb dL_law_33 (by have n0 := lv_neT c0 (a := 0) (by decide); have n1 := lv_neT c1 (a := 1) (by decide); have n2 := lv_neT c2 (a := 2) (by decide); have n3 := lv_neT c3 (a := 3) (by decide); have n4 := lv_neT c4 (a := 4) (by decide); have n5 := lv_neT c5 (a := 5) (by decide); have n6 := lv_neT c6 (a := 6) (by decide); have n7 := lv_neT c7 (a := 7) (by decide); have n8 := lv_neT c8 (a := 8) (by decide); have n9 := lv_neT c9 (a := 9) (by decide); have n10 := lv_neT c10 (a := 10) (by decide); have n11 := lv_neT c11 (a := 11) (by decide); have n12 := lv_neT c12 (a := 12) (by decide); have n13 := lv_neT c13 (a := 13) (by decide); have n14 := lv_neT c14 (a := 14) (by decide); have n15 := lv_neT c15 (a := 15) (by decide); have n16 := lv_neT c16 (a := 16) (by decide); have n17 := lv_neT c17 (a := 17) (by decide); have n18 := lv_neT c18 (a := 18) (by decide); have n19 := lv_neT c19 (a := 19) (by decide); have n20 := lv_neT c20 (a := 20) (by decide); have n21 := lv_neT c21 (a := 21) (by decide); have n22 := lv_neT c22 (a := 22) (by decide); have n23 := lv_neT c23 (a := 23) (by decide); have n24 := lv_neT c24 (a := 24) (by decide); have n25 := lv_neT c25 (a := 25) (by decide); have n26 := lv_neT c26 (a := 26) (by decide); have n27 := lv_neT c27 (a := 27) (by decide); have n28 := lv_neT c28 (a := 28) (by decide); have n29 := lv_neT c29 (a := 29) (by decide); have n30 := lv_neT c30 (a := 30) (by decide); have n31 := lv_neT c31 (a := 31) (by decide); omega) (by decide) ?_
  exact W.widen (Nat.le_add_right _ _) (Nat.le_add_right _ _) (kk σC σT H hC hT hR)
end LWL
