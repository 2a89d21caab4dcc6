set_option maxRecDepth 100000
/-- a place of the script -/
def pl_ (L : Nat) (i : Int32) : Prop := vp_in i L ∧ vp_in (i + (1 : Int32)) L ∧ vp_in (i + (2 : Int32)) L ∧ vp_in (i + (3 : Int32)) L ∧ vp_in (i + (4 : Int32)) L ∧ vp_in (i + (5 : Int32)) L
/-- the law's next step: what stands behind a case -/
def NX (RR : ST → ST → Prop) (p : Program) (l : Launch) (e : Env) (s : State) (m : MethodId) (b : Nat) (below : List Frame) (meth : Method) (c : Code) (cells slots : Nat) (Q : State → Prop) (GC G2 : GT) (ls : Array Slot) : Prop := ∀ (uC uT : ST) (H1 : Heap), PS cp_ft GC s uC H1 [] → PS tw_ft G2 s uT H1 [] → RR uC uT → W p l e room_1 s m #[Value.ref b] below meth c H1 [] (cells + 9000) (slots + 110000) Q (F0 m 1193 ls [])
def OP_person0 (RR : ST → ST → Prop) (x0 : Nat) (ks : Nat → ClassId) (σC σT : ST) : Prop := ∀ (a0 : Int32) (a1 : Int32), ∃ (r : Int32) (uC : ST), cp_person σC a0 a1 = some (r, uC) ∧ ∀ vT, sm vT σT → ∃ uT : ST, tw_person vT a0 a1 = some (r, uT) ∧ RR uC uT
section LWC
variable {p : Program} {l : Launch} {e : Env} {s : State} {m : MethodId} {below : List Frame} {meth : Method} {c : Code} {H : Heap} {cells slots : Nat} {Q : State → Prop} {b L : Nat} {xs : Nat → Int32} {GC G2 : GT} {σC σT : ST} {ls : Array Slot} {i : Int32} {RR : ST → ST → Prop}
theorem lw_c0 (K : LC p s m c b L xs GC G2) (hlt : l.stackTraces = false) (hsm : ∀ a0 b0 a1 b1 : ST, RR a0 b0 → sm a1 a0 → sm b1 b0 → RR a1 b1) (hC : PS cp_ft GC s σC H []) (hT : PS tw_ft G2 s σT H []) (hR : RR σC σT) (hop : OP_person0 RR (GC.2.2.1 0) GC.2.1 σC σT) (hpl : pl_ L i) (hl : lv_has ls 4 [(0, .ref b), (1, .ref (GC.2.2.1 0)), (2, .ref (G2.2.2.1 0)), (3, .int i)]) (hrm : cells + 9000 ≤ room_1.cells ∧ slots + 110000 ≤ room_1.slots) (kk : NX RR p l e s m b below meth c cells slots Q GC G2 ls) : W p l e room_1 s m #[Value.ref b] below meth c H [] cells slots Q (F0 m 176 ls []) := by
  have hal := K.2.2.2.2.2.2.2
  have hx := K.1.1.1
  have hb := K.1.1.2.1
  have hown := K.1.1.2.2.2.1
  have hts := K.1.1.2.2.2.2
  have hsx := K.2.2.1
  have hbl := K.2.2.2.1
  have hbA : ¬ GC.2.2.2.1 b := fun q => absurd (K.2.2.2.2.1 b q) (Nat.not_le.mpr hbl)
  refine lv_aload_n hx hb dL_law_176 rfl (lv_at hl 1 rfl) ?_
  refine lv_aload_n hx hb dL_law_177 rfl (lv_at hl 0 rfl) ?_
  refine lv_iload_n hx hb dL_law_178 rfl (lv_at hl 3 rfl) ?_
  refine lv_iconst (v := (1 : Int32)) hx hb dL_law_179 (by decide) ?_
  refine lv_iadd hx hb dL_law_180 ?_
  refine va_sld hx hb hsx hbl hbA hC.2 hpl.2.1 dL_law_181 ?_
  refine lv_aload_n hx hb dL_law_182 rfl (lv_at hl 0 rfl) ?_
  refine lv_iload_n hx hb dL_law_183 rfl (lv_at hl 3 rfl) ?_
  refine lv_iconst (v := (2 : Int32)) hx hb dL_law_184 (by decide) ?_
  refine lv_iadd hx hb dL_law_185 ?_
  refine va_sld hx hb hsx hbl hbA hC.2 hpl.2.2.1 dL_law_186 ?_
  obtain ⟨r, uC, e1, hop⟩ := hop (xs (i + (1 : Int32)).toNatClampNeg) (xs (i + (2 : Int32)).toNatClampNeg)
  refine w_calli (r0 := r) (u0 := uC) (r_runV (As := [.int (xs (i + (1 : Int32)).toNatClampNeg), .int (xs (i + (2 : Int32)).toNatClampNeg)]) (rest := []) K.1 hC 0 cp_c0 lk_0 (mt_X0_person l GC hal σC (xs (i + (1 : Int32)).toNatClampNeg) (xs (i + (2 : Int32)).toNatClampNeg) e1) (cwV 2 hts (lw_V q392 q393 q394 q110 q395) rfl rfl rfl ⟨rfl, cdX0_person⟩ ⟨(Nat.le_of_ble_eq_true rfl), (Nat.le_of_ble_eq_true rfl)⟩) rfl hl.1 rfl (Nat.le_of_ble_eq_true rfl) dL_law_187 ⟨Nat.le_trans (Nat.add_le_add_left (by decide : 1 ≤ 9000) _) hrm.1, Nat.le_trans (Nat.add_le_add_left (by decide : 4 ≤ 110000) _) hrm.2⟩) ci_sm hC hT K.2.2.2.2.1 K.2.2.2.2.2.2.1 (fun vC vT H sC sT hC hT => ?_)
  have hR0 := hsm _ _ _ _ hR (sm_rf _) sT
  obtain ⟨uT, e2, hR2⟩ := hop vT sT
  refine lv_aload_n hx hb dL_law_190 rfl (lv_at hl 2 rfl) ?_
  refine lv_aload_n hx hb dL_law_191 rfl (lv_at hl 0 rfl) ?_
  refine lv_iload_n hx hb dL_law_192 rfl (lv_at hl 3 rfl) ?_
  refine lv_iconst (v := (1 : Int32)) hx hb dL_law_193 (by decide) ?_
  refine lv_iadd hx hb dL_law_194 ?_
  refine va_sld hx hb hsx hbl hbA hC.2 hpl.2.1 dL_law_195 ?_
  refine lv_aload_n hx hb dL_law_196 rfl (lv_at hl 0 rfl) ?_
  refine lv_iload_n hx hb dL_law_197 rfl (lv_at hl 3 rfl) ?_
  refine lv_iconst (v := (2 : Int32)) hx hb dL_law_198 (by decide) ?_
  refine lv_iadd hx hb dL_law_199 ?_
  refine va_sld hx hb hsx hbl hbA hC.2 hpl.2.2.1 dL_law_200 ?_
  refine w_calli (r0 := r) (u0 := uT) (r_runV (As := [.int (xs (i + (1 : Int32)).toNatClampNeg), .int (xs (i + (2 : Int32)).toNatClampNeg)]) (rest := [.int r]) K.2.1 hT 0 tw_c0 lk_3 (mt_X3_person l G2 vT (xs (i + (1 : Int32)).toNatClampNeg) (xs (i + (2 : Int32)).toNatClampNeg) e2) (cwV 2 hts (lw_V q1875 q1876 q1877 q113 q1878) rfl rfl rfl ⟨rfl, cdX3_person⟩ ⟨(Nat.le_of_ble_eq_true rfl), (Nat.le_of_ble_eq_true rfl)⟩) rfl hl.1 rfl (Nat.le_of_ble_eq_true rfl) dL_law_201 ⟨Nat.le_trans (Nat.add_le_add_left (by decide : 1 ≤ 9000) _) hrm.1, Nat.le_trans (Nat.add_le_add_left (by decide : 4 ≤ 110000) _) hrm.2⟩) ci_sm hT hC K.2.2.2.2.2.1 (fun q h1 h2 => K.2.2.2.2.2.2.1 q h2 h1) (fun wT wC H sT2 sC2 hT hC => ?_)
  refine lv_icmp_eq (tgt := 1193) hx hb dL_law_204 (by decide) (fun _ => ?_) (fun hne => absurd rfl hne)
  refine W.widen (k := cells + 9000) (n := slots + 110000) (Nat.add_le_add_left (by decide : 1 ≤ 9000) _) (Nat.add_le_add_left (by decide : 4 ≤ 110000) _) ?_
  exact kk _ _ _ hC hT (hsm _ _ _ _ hR2 (sm_tr sC2 sC) sT2)
end LWC
def OP_thing1 (RR : ST → ST → Prop) (x0 : Nat) (ks : Nat → ClassId) (σC σT : ST) : Prop := ∀ (a0 : Int32) (a1 : Int32), ∃ (r : Int32) (uC : ST), cp_thing σC a0 a1 = some (r, uC) ∧ ∀ vT, sm vT σT → ∃ uT : ST, tw_thing vT a0 a1 = some (r, uT) ∧ RR uC uT
section LWC
variable {p : Program} {l : Launch} {e : Env} {s : State} {m : MethodId} {below : List Frame} {meth : Method} {c : Code} {H : Heap} {cells slots : Nat} {Q : State → Prop} {b L : Nat} {xs : Nat → Int32} {GC G2 : GT} {σC σT : ST} {ls : Array Slot} {i : Int32} {RR : ST → ST → Prop}
theorem lw_c1 (K : LC p s m c b L xs GC G2) (hlt : l.stackTraces = false) (hsm : ∀ a0 b0 a1 b1 : ST, RR a0 b0 → sm a1 a0 → sm b1 b0 → RR a1 b1) (hC : PS cp_ft GC s σC H []) (hT : PS tw_ft G2 s σT H []) (hR : RR σC σT) (hop : OP_thing1 RR (GC.2.2.1 0) GC.2.1 σC σT) (hpl : pl_ L i) (hl : lv_has ls 4 [(0, .ref b), (1, .ref (GC.2.2.1 0)), (2, .ref (G2.2.2.1 0)), (3, .int i)]) (hrm : cells + 9000 ≤ room_1.cells ∧ slots + 110000 ≤ room_1.slots) (kk : NX RR p l e s m b below meth c cells slots Q GC G2 ls) : W p l e room_1 s m #[Value.ref b] below meth c H [] cells slots Q (F0 m 209 ls []) := by
  have hal := K.2.2.2.2.2.2.2
  have hx := K.1.1.1
  have hb := K.1.1.2.1
  have hown := K.1.1.2.2.2.1
  have hts := K.1.1.2.2.2.2
  have hsx := K.2.2.1
  have hbl := K.2.2.2.1
  have hbA : ¬ GC.2.2.2.1 b := fun q => absurd (K.2.2.2.2.1 b q) (Nat.not_le.mpr hbl)
  refine lv_aload_n hx hb dL_law_209 rfl (lv_at hl 1 rfl) ?_
  refine lv_aload_n hx hb dL_law_210 rfl (lv_at hl 0 rfl) ?_
  refine lv_iload_n hx hb dL_law_211 rfl (lv_at hl 3 rfl) ?_
  refine lv_iconst (v := (1 : Int32)) hx hb dL_law_212 (by decide) ?_
  refine lv_iadd hx hb dL_law_213 ?_
  refine va_sld hx hb hsx hbl hbA hC.2 hpl.2.1 dL_law_214 ?_
  refine lv_aload_n hx hb dL_law_215 rfl (lv_at hl 0 rfl) ?_
  refine lv_iload_n hx hb dL_law_216 rfl (lv_at hl 3 rfl) ?_
  refine lv_iconst (v := (2 : Int32)) hx hb dL_law_217 (by decide) ?_
  refine lv_iadd hx hb dL_law_218 ?_
  refine va_sld hx hb hsx hbl hbA hC.2 hpl.2.2.1 dL_law_219 ?_
  obtain ⟨r, uC, e1, hop⟩ := hop (xs (i + (1 : Int32)).toNatClampNeg) (xs (i + (2 : Int32)).toNatClampNeg)
  refine w_calli (r0 := r) (u0 := uC) (r_runV (As := [.int (xs (i + (1 : Int32)).toNatClampNeg), .int (xs (i + (2 : Int32)).toNatClampNeg)]) (rest := []) K.1 hC 0 cp_c0 lk_0 (mt_X0_thing l GC hal σC (xs (i + (1 : Int32)).toNatClampNeg) (xs (i + (2 : Int32)).toNatClampNeg) e1) (cwV 2 hts (lw_V q425 q426 q427 q110 q428) rfl rfl rfl ⟨rfl, cdX0_thing⟩ ⟨(Nat.le_of_ble_eq_true rfl), (Nat.le_of_ble_eq_true rfl)⟩) rfl hl.1 rfl (Nat.le_of_ble_eq_true rfl) dL_law_220 ⟨Nat.le_trans (Nat.add_le_add_left (by decide : 1 ≤ 9000) _) hrm.1, Nat.le_trans (Nat.add_le_add_left (by decide : 2 ≤ 110000) _) hrm.2⟩) ci_sm hC hT K.2.2.2.2.1 K.2.2.2.2.2.2.1 (fun vC vT H sC sT hC hT => ?_)
  have hR0 := hsm _ _ _ _ hR (sm_rf _) sT
  obtain ⟨uT, e2, hR2⟩ := hop vT sT
  refine lv_aload_n hx hb dL_law_223 rfl (lv_at hl 2 rfl) ?_
  refine lv_aload_n hx hb dL_law_224 rfl (lv_at hl 0 rfl) ?_
  refine lv_iload_n hx hb dL_law_225 rfl (lv_at hl 3 rfl) ?_
  refine lv_iconst (v := (1 : Int32)) hx hb dL_law_226 (by decide) ?_
  refine lv_iadd hx hb dL_law_227 ?_
  refine va_sld hx hb hsx hbl hbA hC.2 hpl.2.1 dL_law_228 ?_
  refine lv_aload_n hx hb dL_law_229 rfl (lv_at hl 0 rfl) ?_
  refine lv_iload_n hx hb dL_law_230 rfl (lv_at hl 3 rfl) ?_
  refine lv_iconst (v := (2 : Int32)) hx hb dL_law_231 (by decide) ?_
  refine lv_iadd hx hb dL_law_232 ?_
  refine va_sld hx hb hsx hbl hbA hC.2 hpl.2.2.1 dL_law_233 ?_
  refine w_calli (r0 := r) (u0 := uT) (r_runV (As := [.int (xs (i + (1 : Int32)).toNatClampNeg), .int (xs (i + (2 : Int32)).toNatClampNeg)]) (rest := [.int r]) K.2.1 hT 0 tw_c0 lk_3 (mt_X3_thing l G2 vT (xs (i + (1 : Int32)).toNatClampNeg) (xs (i + (2 : Int32)).toNatClampNeg) e2) (cwV 2 hts (lw_V q1884 q1885 q1886 q113 q1887) rfl rfl rfl ⟨rfl, cdX3_thing⟩ ⟨(Nat.le_of_ble_eq_true rfl), (Nat.le_of_ble_eq_true rfl)⟩) rfl hl.1 rfl (Nat.le_of_ble_eq_true rfl) dL_law_234 ⟨Nat.le_trans (Nat.add_le_add_left (by decide : 1 ≤ 9000) _) hrm.1, Nat.le_trans (Nat.add_le_add_left (by decide : 2 ≤ 110000) _) hrm.2⟩) ci_sm hT hC K.2.2.2.2.2.1 (fun q h1 h2 => K.2.2.2.2.2.2.1 q h2 h1) (fun wT wC H sT2 sC2 hT hC => ?_)
  refine lv_icmp_eq (tgt := 1193) hx hb dL_law_237 (by decide) (fun _ => ?_) (fun hne => absurd rfl hne)
  refine W.widen (k := cells + 9000) (n := slots + 110000) (Nat.add_le_add_left (by decide : 1 ≤ 9000) _) (Nat.add_le_add_left (by decide : 2 ≤ 110000) _) ?_
  exact kk _ _ _ hC hT (hsm _ _ _ _ hR2 (sm_tr sC2 sC) sT2)
end LWC
def OP_card2 (RR : ST → ST → Prop) (x0 : Nat) (ks : Nat → ClassId) (σC σT : ST) : Prop := ∀ (a0 : Int32) (a1 : Int32) (a2 : Int32), ∃ (r : Int32) (uC : ST), cp_card σC a0 a1 a2 = some (r, uC) ∧ ∀ vT, sm vT σT → ∃ uT : ST, tw_card vT a0 a1 a2 = some (r, uT) ∧ RR uC uT
section LWC
variable {p : Program} {l : Launch} {e : Env} {s : State} {m : MethodId} {below : List Frame} {meth : Method} {c : Code} {H : Heap} {cells slots : Nat} {Q : State → Prop} {b L : Nat} {xs : Nat → Int32} {GC G2 : GT} {σC σT : ST} {ls : Array Slot} {i : Int32} {RR : ST → ST → Prop}
theorem lw_c2 (K : LC p s m c b L xs GC G2) (hlt : l.stackTraces = false) (hsm : ∀ a0 b0 a1 b1 : ST, RR a0 b0 → sm a1 a0 → sm b1 b0 → RR a1 b1) (hC : PS cp_ft GC s σC H []) (hT : PS tw_ft G2 s σT H []) (hR : RR σC σT) (hop : OP_card2 RR (GC.2.2.1 0) GC.2.1 σC σT) (hpl : pl_ L i) (hl : lv_has ls 4 [(0, .ref b), (1, .ref (GC.2.2.1 0)), (2, .ref (G2.2.2.1 0)), (3, .int i)]) (hrm : cells + 9000 ≤ room_1.cells ∧ slots + 110000 ≤ room_1.slots) (kk : NX RR p l e s m b below meth c cells slots Q GC G2 ls) : W p l e room_1 s m #[Value.ref b] below meth c H [] cells slots Q (F0 m 242 ls []) := by
  have hal := K.2.2.2.2.2.2.2
  have hx := K.1.1.1
  have hb := K.1.1.2.1
  have hown := K.1.1.2.2.2.1
  have hts := K.1.1.2.2.2.2
  have hsx := K.2.2.1
  have hbl := K.2.2.2.1
  have hbA : ¬ GC.2.2.2.1 b := fun q => absurd (K.2.2.2.2.1 b q) (Nat.not_le.mpr hbl)
  refine lv_aload_n hx hb dL_law_242 rfl (lv_at hl 1 rfl) ?_
  refine lv_aload_n hx hb dL_law_243 rfl (lv_at hl 0 rfl) ?_
  refine lv_iload_n hx hb dL_law_244 rfl (lv_at hl 3 rfl) ?_
  refine lv_iconst (v := (1 : Int32)) hx hb dL_law_245 (by decide) ?_
  refine lv_iadd hx hb dL_law_246 ?_
  refine va_sld hx hb hsx hbl hbA hC.2 hpl.2.1 dL_law_247 ?_
  refine lv_aload_n hx hb dL_law_248 rfl (lv_at hl 0 rfl) ?_
  refine lv_iload_n hx hb dL_law_249 rfl (lv_at hl 3 rfl) ?_
  refine lv_iconst (v := (2 : Int32)) hx hb dL_law_250 (by decide) ?_
  refine lv_iadd hx hb dL_law_251 ?_
  refine va_sld hx hb hsx hbl hbA hC.2 hpl.2.2.1 dL_law_252 ?_
  refine lv_aload_n hx hb dL_law_253 rfl (lv_at hl 0 rfl) ?_
  refine lv_iload_n hx hb dL_law_254 rfl (lv_at hl 3 rfl) ?_
  refine lv_iconst (v := (3 : Int32)) hx hb dL_law_255 (by decide) ?_
  refine lv_iadd hx hb dL_law_256 ?_
  refine va_sld hx hb hsx hbl hbA hC.2 hpl.2.2.2.1 dL_law_257 ?_
  obtain ⟨r, uC, e1, hop⟩ := hop (xs (i + (1 : Int32)).toNatClampNeg) (xs (i + (2 : Int32)).toNatClampNeg) (xs (i + (3 : Int32)).toNatClampNeg)
  refine w_calli (r0 := r) (u0 := uC) (r_runV (As := [.int (xs (i + (1 : Int32)).toNatClampNeg), .int (xs (i + (2 : Int32)).toNatClampNeg), .int (xs (i + (3 : Int32)).toNatClampNeg)]) (rest := []) K.1 hC 0 cp_c0 lk_0 (mt_X0_card l GC hal σC (xs (i + (1 : Int32)).toNatClampNeg) (xs (i + (2 : Int32)).toNatClampNeg) (xs (i + (3 : Int32)).toNatClampNeg) e1) (cwV 3 hts (lw_V q444 q445 q446 q110 q447) rfl rfl rfl ⟨rfl, cdX0_card⟩ ⟨(Nat.le_of_ble_eq_true rfl), (Nat.le_of_ble_eq_true rfl)⟩) rfl hl.1 rfl (Nat.le_of_ble_eq_true rfl) dL_law_258 ⟨Nat.le_trans (Nat.add_le_add_left (by decide : 1 ≤ 9000) _) hrm.1, Nat.le_trans (Nat.add_le_add_left (by decide : 3 ≤ 110000) _) hrm.2⟩) ci_sm hC hT K.2.2.2.2.1 K.2.2.2.2.2.2.1 (fun vC vT H sC sT hC hT => ?_)
  have hR0 := hsm _ _ _ _ hR (sm_rf _) sT
  obtain ⟨uT, e2, hR2⟩ := hop vT sT
  refine lv_aload_n hx hb dL_law_261 rfl (lv_at hl 2 rfl) ?_
  refine lv_aload_n hx hb dL_law_262 rfl (lv_at hl 0 rfl) ?_
  refine lv_iload_n hx hb dL_law_263 rfl (lv_at hl 3 rfl) ?_
  refine lv_iconst (v := (1 : Int32)) hx hb dL_law_264 (by decide) ?_
  refine lv_iadd hx hb dL_law_265 ?_
  refine va_sld hx hb hsx hbl hbA hC.2 hpl.2.1 dL_law_266 ?_
  refine lv_aload_n hx hb dL_law_267 rfl (lv_at hl 0 rfl) ?_
  refine lv_iload_n hx hb dL_law_268 rfl (lv_at hl 3 rfl) ?_
  refine lv_iconst (v := (2 : Int32)) hx hb dL_law_269 (by decide) ?_
  refine lv_iadd hx hb dL_law_270 ?_
  refine va_sld hx hb hsx hbl hbA hC.2 hpl.2.2.1 dL_law_271 ?_
  refine lv_aload_n hx hb dL_law_272 rfl (lv_at hl 0 rfl) ?_
  refine lv_iload_n hx hb dL_law_273 rfl (lv_at hl 3 rfl) ?_
  refine lv_iconst (v := (3 : Int32)) hx hb dL_law_274 (by decide) ?_
  refine lv_iadd hx hb dL_law_275 ?_
  refine va_sld hx hb hsx hbl hbA hC.2 hpl.2.2.2.1 dL_law_276 ?_
  refine w_calli (r0 := r) (u0 := uT) (r_runV (As := [.int (xs (i + (1 : Int32)).toNatClampNeg), .int (xs (i + (2 : Int32)).toNatClampNeg), .int (xs (i + (3 : Int32)).toNatClampNeg)]) (rest := [.int r]) K.2.1 hT 0 tw_c0 lk_3 (mt_X3_card l G2 vT (xs (i + (1 : Int32)).toNatClampNeg) (xs (i + (2 : Int32)).toNatClampNeg) (xs (i + (3 : Int32)).toNatClampNeg) e2) (cwV 3 hts (lw_V q1896 q1897 q1898 q113 q1899) rfl rfl rfl ⟨rfl, cdX3_card⟩ ⟨(Nat.le_of_ble_eq_true rfl), (Nat.le_of_ble_eq_true rfl)⟩) rfl hl.1 rfl (Nat.le_of_ble_eq_true rfl) dL_law_277 ⟨Nat.le_trans (Nat.add_le_add_left (by decide : 1 ≤ 9000) _) hrm.1, Nat.le_trans (Nat.add_le_add_left (by decide : 3 ≤ 110000) _) hrm.2⟩) ci_sm hT hC K.2.2.2.2.2.1 (fun q h1 h2 => K.2.2.2.2.2.2.1 q h2 h1) (fun wT wC H sT2 sC2 hT hC => ?_)
  refine lv_icmp_eq (tgt := 1193) hx hb dL_law_280 (by decide) (fun _ => ?_) (fun hne => absurd rfl hne)
  refine W.widen (k := cells + 9000) (n := slots + 110000) (Nat.add_le_add_left (by decide : 1 ≤ 9000) _) (Nat.add_le_add_left (by decide : 3 ≤ 110000) _) ?_
  exact kk _ _ _ hC hT (hsm _ _ _ _ hR2 (sm_tr sC2 sC) sT2)
end LWC
def OP_cards3 (RR : ST → ST → Prop) (x0 : Nat) (ks : Nat → ClassId) (σC σT : ST) : Prop := ∀ (a0 : Int32) (a1 : Int32) (a2 : Int32), ∃ (r : Int32) (uC : ST), cp_cardsT ks σC a0 a1 a2 = some (r, uC) ∧ ∀ vT, sm vT σT → ∃ uT : ST, tw_cards vT a0 a1 a2 = some (r, uT) ∧ RR uC uT
section LWC
variable {p : Program} {l : Launch} {e : Env} {s : State} {m : MethodId} {below : List Frame} {meth : Method} {c : Code} {H : Heap} {cells slots : Nat} {Q : State → Prop} {b L : Nat} {xs : Nat → Int32} {GC G2 : GT} {σC σT : ST} {ls : Array Slot} {i : Int32} {RR : ST → ST → Prop}
theorem lw_c3 (K : LC p s m c b L xs GC G2) (hlt : l.stackTraces = false) (hsm : ∀ a0 b0 a1 b1 : ST, RR a0 b0 → sm a1 a0 → sm b1 b0 → RR a1 b1) (hC : PS cp_ft GC s σC H []) (hT : PS tw_ft G2 s σT H []) (hR : RR σC σT) (hop : OP_cards3 RR (GC.2.2.1 0) GC.2.1 σC σT) (hpl : pl_ L i) (hl : lv_has ls 4 [(0, .ref b), (1, .ref (GC.2.2.1 0)), (2, .ref (G2.2.2.1 0)), (3, .int i)]) (hrm : cells + 9000 ≤ room_1.cells ∧ slots + 110000 ≤ room_1.slots) (kk : NX RR p l e s m b below meth c cells slots Q GC G2 ls) : W p l e room_1 s m #[Value.ref b] below meth c H [] cells slots Q (F0 m 285 ls []) := by
  have hal := K.2.2.2.2.2.2.2
  have hx := K.1.1.1
  have hb := K.1.1.2.1
  have hown := K.1.1.2.2.2.1
  have hts := K.1.1.2.2.2.2
  have hsx := K.2.2.1
  have hbl := K.2.2.2.1
  have hbA : ¬ GC.2.2.2.1 b := fun q => absurd (K.2.2.2.2.1 b q) (Nat.not_le.mpr hbl)
  refine lv_aload_n hx hb dL_law_285 rfl (lv_at hl 1 rfl) ?_
  refine lv_aload_n hx hb dL_law_286 rfl (lv_at hl 0 rfl) ?_
  refine lv_iload_n hx hb dL_law_287 rfl (lv_at hl 3 rfl) ?_
  refine lv_iconst (v := (1 : Int32)) hx hb dL_law_288 (by decide) ?_
  refine lv_iadd hx hb dL_law_289 ?_
  refine va_sld hx hb hsx hbl hbA hC.2 hpl.2.1 dL_law_290 ?_
  refine lv_aload_n hx hb dL_law_291 rfl (lv_at hl 0 rfl) ?_
  refine lv_iload_n hx hb dL_law_292 rfl (lv_at hl 3 rfl) ?_
  refine lv_iconst (v := (2 : Int32)) hx hb dL_law_293 (by decide) ?_
  refine lv_iadd hx hb dL_law_294 ?_
  refine va_sld hx hb hsx hbl hbA hC.2 hpl.2.2.1 dL_law_295 ?_
  refine lv_aload_n hx hb dL_law_296 rfl (lv_at hl 0 rfl) ?_
  refine lv_iload_n hx hb dL_law_297 rfl (lv_at hl 3 rfl) ?_
  refine lv_iconst (v := (3 : Int32)) hx hb dL_law_298 (by decide) ?_
  refine lv_iadd hx hb dL_law_299 ?_
  refine va_sld hx hb hsx hbl hbA hC.2 hpl.2.2.2.1 dL_law_300 ?_
  obtain ⟨r, uC, e1, hop⟩ := hop (xs (i + (1 : Int32)).toNatClampNeg) (xs (i + (2 : Int32)).toNatClampNeg) (xs (i + (3 : Int32)).toNatClampNeg)
  refine w_calli (r0 := r) (u0 := uC) (w_runVW (As := [.int (xs (i + (1 : Int32)).toNatClampNeg), .int (xs (i + (2 : Int32)).toNatClampNeg), .int (xs (i + (3 : Int32)).toNatClampNeg)]) (rest := []) K.1 hC 0 cp_c0 lk_0 (mt_cardsT l GC hal hlt σC (xs (i + (1 : Int32)).toNatClampNeg) (xs (i + (2 : Int32)).toNatClampNeg) (xs (i + (3 : Int32)).toNatClampNeg) e1) q480 q481 q482 q110 q483 rfl rfl cdX0_cards ⟨(Nat.le_of_ble_eq_true rfl), (Nat.le_of_ble_eq_true rfl)⟩ rfl hl.1 rfl (Nat.le_of_ble_eq_true rfl) dL_law_301 ⟨Nat.le_trans (Nat.add_le_add_left (by decide : 30 ≤ 9000) _) hrm.1, Nat.le_trans (Nat.add_le_add_left (by decide : 1400 ≤ 110000) _) hrm.2⟩) xi_sm hC hT K.2.2.2.2.1 K.2.2.2.2.2.2.1 (fun vC vT H sC sT hC hT => ?_)
  have hR0 := hsm _ _ _ _ hR (sm_rf _) sT
  obtain ⟨uT, e2, hR2⟩ := hop vT sT
  refine lv_aload_n hx hb dL_law_304 rfl (lv_at hl 2 rfl) ?_
  refine lv_aload_n hx hb dL_law_305 rfl (lv_at hl 0 rfl) ?_
  refine lv_iload_n hx hb dL_law_306 rfl (lv_at hl 3 rfl) ?_
  refine lv_iconst (v := (1 : Int32)) hx hb dL_law_307 (by decide) ?_
  refine lv_iadd hx hb dL_law_308 ?_
  refine va_sld hx hb hsx hbl hbA hC.2 hpl.2.1 dL_law_309 ?_
  refine lv_aload_n hx hb dL_law_310 rfl (lv_at hl 0 rfl) ?_
  refine lv_iload_n hx hb dL_law_311 rfl (lv_at hl 3 rfl) ?_
  refine lv_iconst (v := (2 : Int32)) hx hb dL_law_312 (by decide) ?_
  refine lv_iadd hx hb dL_law_313 ?_
  refine va_sld hx hb hsx hbl hbA hC.2 hpl.2.2.1 dL_law_314 ?_
  refine lv_aload_n hx hb dL_law_315 rfl (lv_at hl 0 rfl) ?_
  refine lv_iload_n hx hb dL_law_316 rfl (lv_at hl 3 rfl) ?_
  refine lv_iconst (v := (3 : Int32)) hx hb dL_law_317 (by decide) ?_
  refine lv_iadd hx hb dL_law_318 ?_
  refine va_sld hx hb hsx hbl hbA hC.2 hpl.2.2.2.1 dL_law_319 ?_
  refine w_calli (r0 := r) (u0 := uT) (r_runV (As := [.int (xs (i + (1 : Int32)).toNatClampNeg), .int (xs (i + (2 : Int32)).toNatClampNeg), .int (xs (i + (3 : Int32)).toNatClampNeg)]) (rest := [.int r]) K.2.1 hT 0 tw_c0 lk_3 (mt_X3_cards l G2 vT (xs (i + (1 : Int32)).toNatClampNeg) (xs (i + (2 : Int32)).toNatClampNeg) (xs (i + (3 : Int32)).toNatClampNeg) e2) (cwV 3 hts (lw_V q1910 q1911 q1912 q113 q1913) rfl rfl rfl ⟨rfl, cdX3_cards⟩ ⟨(Nat.le_of_ble_eq_true rfl), (Nat.le_of_ble_eq_true rfl)⟩) rfl hl.1 rfl (Nat.le_of_ble_eq_true rfl) dL_law_320 ⟨Nat.le_trans (Nat.add_le_add_left (by decide : 30 ≤ 9000) _) hrm.1, Nat.le_trans (Nat.add_le_add_left (by decide : 1400 ≤ 110000) _) hrm.2⟩) ci_sm hT hC K.2.2.2.2.2.1 (fun q h1 h2 => K.2.2.2.2.2.2.1 q h2 h1) (fun wT wC H sT2 sC2 hT hC => ?_)
  refine lv_icmp_eq (tgt := 1193) hx hb dL_law_323 (by decide) (fun _ => ?_) (fun hne => absurd rfl hne)
  refine W.widen (k := cells + 9000) (n := slots + 110000) (Nat.add_le_add_left (by decide : 30 ≤ 9000) _) (Nat.add_le_add_left (by decide : 1400 ≤ 110000) _) ?_
  exact kk _ _ _ hC hT (hsm _ _ _ _ hR2 (sm_tr sC2 sC) sT2)
end LWC
def OP_feed4 (RR : ST → ST → Prop) (x0 : Nat) (ks : Nat → ClassId) (σC σT : ST) : Prop := ∀ (a0 : Int32), ∃ (r : Int32) (uC : ST), cp_feed σC a0 = some (r, uC) ∧ ∀ vT, sm vT σT → ∃ uT : ST, tw_feed vT a0 = some (r, uT) ∧ RR uC uT
section LWC
variable {p : Program} {l : Launch} {e : Env} {s : State} {m : MethodId} {below : List Frame} {meth : Method} {c : Code} {H : Heap} {cells slots : Nat} {Q : State → Prop} {b L : Nat} {xs : Nat → Int32} {GC G2 : GT} {σC σT : ST} {ls : Array Slot} {i : Int32} {RR : ST → ST → Prop}
theorem lw_c4 (K : LC p s m c b L xs GC G2) (hlt : l.stackTraces = false) (hsm : ∀ a0 b0 a1 b1 : ST, RR a0 b0 → sm a1 a0 → sm b1 b0 → RR a1 b1) (hC : PS cp_ft GC s σC H []) (hT : PS tw_ft G2 s σT H []) (hR : RR σC σT) (hop : OP_feed4 RR (GC.2.2.1 0) GC.2.1 σC σT) (hpl : pl_ L i) (hl : lv_has ls 4 [(0, .ref b), (1, .ref (GC.2.2.1 0)), (2, .ref (G2.2.2.1 0)), (3, .int i)]) (hrm : cells + 9000 ≤ room_1.cells ∧ slots + 110000 ≤ room_1.slots) (kk : NX RR p l e s m b below meth c cells slots Q GC G2 ls) : W p l e room_1 s m #[Value.ref b] below meth c H [] cells slots Q (F0 m 328 ls []) := by
  have hal := K.2.2.2.2.2.2.2
  have hx := K.1.1.1
  have hb := K.1.1.2.1
  have hown := K.1.1.2.2.2.1
  have hts := K.1.1.2.2.2.2
  have hsx := K.2.2.1
  have hbl := K.2.2.2.1
  have hbA : ¬ GC.2.2.2.1 b := fun q => absurd (K.2.2.2.2.1 b q) (Nat.not_le.mpr hbl)
  refine lv_aload_n hx hb dL_law_328 rfl (lv_at hl 1 rfl) ?_
  refine lv_aload_n hx hb dL_law_329 rfl (lv_at hl 0 rfl) ?_
  refine lv_iload_n hx hb dL_law_330 rfl (lv_at hl 3 rfl) ?_
  refine lv_iconst (v := (1 : Int32)) hx hb dL_law_331 (by decide) ?_
  refine lv_iadd hx hb dL_law_332 ?_
  refine va_sld hx hb hsx hbl hbA hC.2 hpl.2.1 dL_law_333 ?_
  obtain ⟨r, uC, e1, hop⟩ := hop (xs (i + (1 : Int32)).toNatClampNeg)
  refine w_calli (r0 := r) (u0 := uC) (r_runV (As := [.int (xs (i + (1 : Int32)).toNatClampNeg)]) (rest := []) K.1 hC 0 cp_c0 lk_0 (mt_X0_feed l GC σC (xs (i + (1 : Int32)).toNatClampNeg) e1) (cwV 1 hts (lw_V q675 q676 q677 q110 q678) rfl rfl rfl ⟨rfl, cdX0_feed⟩ ⟨(Nat.le_of_ble_eq_true rfl), (Nat.le_of_ble_eq_true rfl)⟩) rfl hl.1 rfl (Nat.le_of_ble_eq_true rfl) dL_law_334 ⟨Nat.le_trans (Nat.add_le_add_left (by decide : 0 ≤ 9000) _) hrm.1, Nat.le_trans (Nat.add_le_add_left (by decide : 0 ≤ 110000) _) hrm.2⟩) ci_sm hC hT K.2.2.2.2.1 K.2.2.2.2.2.2.1 (fun vC vT H sC sT hC hT => ?_)
  have hR0 := hsm _ _ _ _ hR (sm_rf _) sT
  obtain ⟨uT, e2, hR2⟩ := hop vT sT
  refine lv_aload_n hx hb dL_law_337 rfl (lv_at hl 2 rfl) ?_
  refine lv_aload_n hx hb dL_law_338 rfl (lv_at hl 0 rfl) ?_
  refine lv_iload_n hx hb dL_law_339 rfl (lv_at hl 3 rfl) ?_
  refine lv_iconst (v := (1 : Int32)) hx hb dL_law_340 (by decide) ?_
  refine lv_iadd hx hb dL_law_341 ?_
  refine va_sld hx hb hsx hbl hbA hC.2 hpl.2.1 dL_law_342 ?_
  refine w_calli (r0 := r) (u0 := uT) (r_runV (As := [.int (xs (i + (1 : Int32)).toNatClampNeg)]) (rest := [.int r]) K.2.1 hT 0 tw_c0 lk_3 (mt_X3_feed l G2 vT (xs (i + (1 : Int32)).toNatClampNeg) e2) (cwV 1 hts (lw_V q1948 q1949 q1950 q113 q1951) rfl rfl rfl ⟨rfl, cdX3_feed⟩ ⟨(Nat.le_of_ble_eq_true rfl), (Nat.le_of_ble_eq_true rfl)⟩) rfl hl.1 rfl (Nat.le_of_ble_eq_true rfl) dL_law_343 ⟨Nat.le_trans (Nat.add_le_add_left (by decide : 0 ≤ 9000) _) hrm.1, Nat.le_trans (Nat.add_le_add_left (by decide : 0 ≤ 110000) _) hrm.2⟩) ci_sm hT hC K.2.2.2.2.2.1 (fun q h1 h2 => K.2.2.2.2.2.2.1 q h2 h1) (fun wT wC H sT2 sC2 hT hC => ?_)
  refine lv_icmp_eq (tgt := 1193) hx hb dL_law_346 (by decide) (fun _ => ?_) (fun hne => absurd rfl hne)
  refine W.widen (k := cells + 9000) (n := slots + 110000) (Nat.add_le_add_left (by decide : 0 ≤ 9000) _) (Nat.add_le_add_left (by decide : 0 ≤ 110000) _) ?_
  exact kk _ _ _ hC hT (hsm _ _ _ _ hR2 (sm_tr sC2 sC) sT2)
end LWC
def OP_law5 (RR : ST → ST → Prop) (x0 : Nat) (ks : Nat → ClassId) (σC σT : ST) : Prop := ∃ (r : Int32) (uC : ST), cp_law x0 σC = some (r, uC) ∧ ∀ vT, sm vT σT → ∃ uT : ST, tw_law vT = some (r, uT) ∧ RR uC uT
section LWC
variable {p : Program} {l : Launch} {e : Env} {s : State} {m : MethodId} {below : List Frame} {meth : Method} {c : Code} {H : Heap} {cells slots : Nat} {Q : State → Prop} {b L : Nat} {xs : Nat → Int32} {GC G2 : GT} {σC σT : ST} {ls : Array Slot} {i : Int32} {RR : ST → ST → Prop}
theorem lw_c5 (K : LC p s m c b L xs GC G2) (hlt : l.stackTraces = false) (hsm : ∀ a0 b0 a1 b1 : ST, RR a0 b0 → sm a1 a0 → sm b1 b0 → RR a1 b1) (hC : PS cp_ft GC s σC H []) (hT : PS tw_ft G2 s σT H []) (hR : RR σC σT) (hop : OP_law5 RR (GC.2.2.1 0) GC.2.1 σC σT) (hpl : pl_ L i) (hl : lv_has ls 4 [(0, .ref b), (1, .ref (GC.2.2.1 0)), (2, .ref (G2.2.2.1 0)), (3, .int i)]) (hrm : cells + 9000 ≤ room_1.cells ∧ slots + 110000 ≤ room_1.slots) (kk : NX RR p l e s m b below meth c cells slots Q GC G2 ls) : W p l e room_1 s m #[Value.ref b] below meth c H [] cells slots Q (F0 m 351 ls []) := by
  have hal := K.2.2.2.2.2.2.2
  have hx := K.1.1.1
  have hb := K.1.1.2.1
  have hown := K.1.1.2.2.2.1
  have hts := K.1.1.2.2.2.2
  have hsx := K.2.2.1
  have hbl := K.2.2.2.1
  have hbA : ¬ GC.2.2.2.1 b := fun q => absurd (K.2.2.2.2.1 b q) (Nat.not_le.mpr hbl)
  refine lv_aload_n hx hb dL_law_351 rfl (lv_at hl 1 rfl) ?_
  obtain ⟨r, uC, e1, hop⟩ := hop
  refine w_calli (r0 := r) (u0 := uC) (r_runV (As := []) (rest := []) K.1 hC 0 cp_c0 lk_0 (mt_X0_law l GC hal σC e1) (cwV 0 hts (lw_V q679 q680 q681 q110 q682) rfl rfl rfl ⟨rfl, cdX0_law⟩ ⟨(Nat.le_of_ble_eq_true rfl), (Nat.le_of_ble_eq_true rfl)⟩) rfl hl.1 rfl (Nat.le_of_ble_eq_true rfl) dL_law_352 ⟨Nat.le_trans (Nat.add_le_add_left (by decide : 2001 ≤ 9000) _) hrm.1, Nat.le_trans (Nat.add_le_add_left (by decide : 8004 ≤ 110000) _) hrm.2⟩) ci_sm hC hT K.2.2.2.2.1 K.2.2.2.2.2.2.1 (fun vC vT H sC sT hC hT => ?_)
  have hR0 := hsm _ _ _ _ hR (sm_rf _) sT
  obtain ⟨uT, e2, hR2⟩ := hop vT sT
  refine lv_aload_n hx hb dL_law_355 rfl (lv_at hl 2 rfl) ?_
  refine w_calli (r0 := r) (u0 := uT) (r_runV (As := []) (rest := [.int r]) K.2.1 hT 0 tw_c0 lk_3 (mt_X3_law l G2 vT e2) (cwV 0 hts (lw_V q1953 q1954 q1955 q113 q1956) rfl rfl rfl ⟨rfl, cdX3_law⟩ ⟨(Nat.le_of_ble_eq_true rfl), (Nat.le_of_ble_eq_true rfl)⟩) rfl hl.1 rfl (Nat.le_of_ble_eq_true rfl) dL_law_356 ⟨Nat.le_trans (Nat.add_le_add_left (by decide : 2001 ≤ 9000) _) hrm.1, Nat.le_trans (Nat.add_le_add_left (by decide : 8004 ≤ 110000) _) hrm.2⟩) ci_sm hT hC K.2.2.2.2.2.1 (fun q h1 h2 => K.2.2.2.2.2.2.1 q h2 h1) (fun wT wC H sT2 sC2 hT hC => ?_)
  refine lv_icmp_eq (tgt := 1193) hx hb dL_law_359 (by decide) (fun _ => ?_) (fun hne => absurd rfl hne)
  refine W.widen (k := cells + 9000) (n := slots + 110000) (Nat.add_le_add_left (by decide : 2001 ≤ 9000) _) (Nat.add_le_add_left (by decide : 8004 ≤ 110000) _) ?_
  exact kk _ _ _ hC hT (hsm _ _ _ _ hR2 (sm_tr sC2 sC) sT2)
end LWC
def OP_set6 (RR : ST → ST → Prop) (x0 : Nat) (ks : Nat → ClassId) (σC σT : ST) : Prop := ∀ (a0 : Int32) (a1 : Int32), ∃ (r : Int32) (uC : ST), cp_set σC a0 a1 = some (r, uC) ∧ ∀ vT, sm vT σT → ∃ uT : ST, tw_set vT a0 a1 = some (r, uT) ∧ RR uC uT
section LWC
variable {p : Program} {l : Launch} {e : Env} {s : State} {m : MethodId} {below : List Frame} {meth : Method} {c : Code} {H : Heap} {cells slots : Nat} {Q : State → Prop} {b L : Nat} {xs : Nat → Int32} {GC G2 : GT} {σC σT : ST} {ls : Array Slot} {i : Int32} {RR : ST → ST → Prop}
theorem lw_c6 (K : LC p s m c b L xs GC G2) (hlt : l.stackTraces = false) (hsm : ∀ a0 b0 a1 b1 : ST, RR a0 b0 → sm a1 a0 → sm b1 b0 → RR a1 b1) (hC : PS cp_ft GC s σC H []) (hT : PS tw_ft G2 s σT H []) (hR : RR σC σT) (hop : OP_set6 RR (GC.2.2.1 0) GC.2.1 σC σT) (hpl : pl_ L i) (hl : lv_has ls 4 [(0, .ref b), (1, .ref (GC.2.2.1 0)), (2, .ref (G2.2.2.1 0)), (3, .int i)]) (hrm : cells + 9000 ≤ room_1.cells ∧ slots + 110000 ≤ room_1.slots) (kk : NX RR p l e s m b below meth c cells slots Q GC G2 ls) : W p l e room_1 s m #[Value.ref b] below meth c H [] cells slots Q (F0 m 364 ls []) := by
  have hal := K.2.2.2.2.2.2.2
  have hx := K.1.1.1
  have hb := K.1.1.2.1
  have hown := K.1.1.2.2.2.1
  have hts := K.1.1.2.2.2.2
  have hsx := K.2.2.1
  have hbl := K.2.2.2.1
  have hbA : ¬ GC.2.2.2.1 b := fun q => absurd (K.2.2.2.2.1 b q) (Nat.not_le.mpr hbl)
  refine lv_aload_n hx hb dL_law_364 rfl (lv_at hl 1 rfl) ?_
  refine lv_aload_n hx hb dL_law_365 rfl (lv_at hl 0 rfl) ?_
  refine lv_iload_n hx hb dL_law_366 rfl (lv_at hl 3 rfl) ?_
  refine lv_iconst (v := (1 : Int32)) hx hb dL_law_367 (by decide) ?_
  refine lv_iadd hx hb dL_law_368 ?_
  refine va_sld hx hb hsx hbl hbA hC.2 hpl.2.1 dL_law_369 ?_
  refine lv_aload_n hx hb dL_law_370 rfl (lv_at hl 0 rfl) ?_
  refine lv_iload_n hx hb dL_law_371 rfl (lv_at hl 3 rfl) ?_
  refine lv_iconst (v := (2 : Int32)) hx hb dL_law_372 (by decide) ?_
  refine lv_iadd hx hb dL_law_373 ?_
  refine va_sld hx hb hsx hbl hbA hC.2 hpl.2.2.1 dL_law_374 ?_
  obtain ⟨r, uC, e1, hop⟩ := hop (xs (i + (1 : Int32)).toNatClampNeg) (xs (i + (2 : Int32)).toNatClampNeg)
  refine w_calli (r0 := r) (u0 := uC) (r_runV (As := [.int (xs (i + (1 : Int32)).toNatClampNeg), .int (xs (i + (2 : Int32)).toNatClampNeg)]) (rest := []) K.1 hC 0 cp_c0 lk_0 (mt_X0_set l GC σC (xs (i + (1 : Int32)).toNatClampNeg) (xs (i + (2 : Int32)).toNatClampNeg) e1) (cwV 2 hts (lw_V q620 q621 q622 q110 q623) rfl rfl rfl ⟨rfl, cdX0_set⟩ ⟨(Nat.le_of_ble_eq_true rfl), (Nat.le_of_ble_eq_true rfl)⟩) rfl hl.1 rfl (Nat.le_of_ble_eq_true rfl) dL_law_375 ⟨Nat.le_trans (Nat.add_le_add_left (by decide : 0 ≤ 9000) _) hrm.1, Nat.le_trans (Nat.add_le_add_left (by decide : 0 ≤ 110000) _) hrm.2⟩) ci_sm hC hT K.2.2.2.2.1 K.2.2.2.2.2.2.1 (fun vC vT H sC sT hC hT => ?_)
  have hR0 := hsm _ _ _ _ hR (sm_rf _) sT
  obtain ⟨uT, e2, hR2⟩ := hop vT sT
  refine lv_aload_n hx hb dL_law_378 rfl (lv_at hl 2 rfl) ?_
  refine lv_aload_n hx hb dL_law_379 rfl (lv_at hl 0 rfl) ?_
  refine lv_iload_n hx hb dL_law_380 rfl (lv_at hl 3 rfl) ?_
  refine lv_iconst (v := (1 : Int32)) hx hb dL_law_381 (by decide) ?_
  refine lv_iadd hx hb dL_law_382 ?_
  refine va_sld hx hb hsx hbl hbA hC.2 hpl.2.1 dL_law_383 ?_
  refine lv_aload_n hx hb dL_law_384 rfl (lv_at hl 0 rfl) ?_
  refine lv_iload_n hx hb dL_law_385 rfl (lv_at hl 3 rfl) ?_
  refine lv_iconst (v := (2 : Int32)) hx hb dL_law_386 (by decide) ?_
  refine lv_iadd hx hb dL_law_387 ?_
  refine va_sld hx hb hsx hbl hbA hC.2 hpl.2.2.1 dL_law_388 ?_
  refine w_calli (r0 := r) (u0 := uT) (r_runV (As := [.int (xs (i + (1 : Int32)).toNatClampNeg), .int (xs (i + (2 : Int32)).toNatClampNeg)]) (rest := [.int r]) K.2.1 hT 0 tw_c0 lk_3 (mt_X3_set l G2 vT (xs (i + (1 : Int32)).toNatClampNeg) (xs (i + (2 : Int32)).toNatClampNeg) e2) (cwV 2 hts (lw_V q1919 q1920 q1921 q113 q1922) rfl rfl rfl ⟨rfl, cdX3_set⟩ ⟨(Nat.le_of_ble_eq_true rfl), (Nat.le_of_ble_eq_true rfl)⟩) rfl hl.1 rfl (Nat.le_of_ble_eq_true rfl) dL_law_389 ⟨Nat.le_trans (Nat.add_le_add_left (by decide : 0 ≤ 9000) _) hrm.1, Nat.le_trans (Nat.add_le_add_left (by decide : 0 ≤ 110000) _) hrm.2⟩) ci_sm hT hC K.2.2.2.2.2.1 (fun q h1 h2 => K.2.2.2.2.2.2.1 q h2 h1) (fun wT wC H sT2 sC2 hT hC => ?_)
  refine lv_icmp_eq (tgt := 1193) hx hb dL_law_392 (by decide) (fun _ => ?_) (fun hne => absurd rfl hne)
  refine W.widen (k := cells + 9000) (n := slots + 110000) (Nat.add_le_add_left (by decide : 0 ≤ 9000) _) (Nat.add_le_add_left (by decide : 0 ≤ 110000) _) ?_
  exact kk _ _ _ hC hT (hsm _ _ _ _ hR2 (sm_tr sC2 sC) sT2)
end LWC
def OP_mend7 (RR : ST → ST → Prop) (x0 : Nat) (ks : Nat → ClassId) (σC σT : ST) : Prop := ∀ (a0 : Int32) (a1 : Int32) (a2 : Int32), ∃ (r : Int32) (uC : ST), cp_mend σC a0 a1 a2 = some (r, uC) ∧ ∀ vT, sm vT σT → ∃ uT : ST, tw_mend vT a0 a1 a2 = some (r, uT) ∧ RR uC uT
section LWC
variable {p : Program} {l : Launch} {e : Env} {s : State} {m : MethodId} {below : List Frame} {meth : Method} {c : Code} {H : Heap} {cells slots : Nat} {Q : State → Prop} {b L : Nat} {xs : Nat → Int32} {GC G2 : GT} {σC σT : ST} {ls : Array Slot} {i : Int32} {RR : ST → ST → Prop}
theorem lw_c7 (K : LC p s m c b L xs GC G2) (hlt : l.stackTraces = false) (hsm : ∀ a0 b0 a1 b1 : ST, RR a0 b0 → sm a1 a0 → sm b1 b0 → RR a1 b1) (hC : PS cp_ft GC s σC H []) (hT : PS tw_ft G2 s σT H []) (hR : RR σC σT) (hop : OP_mend7 RR (GC.2.2.1 0) GC.2.1 σC σT) (hpl : pl_ L i) (hl : lv_has ls 4 [(0, .ref b), (1, .ref (GC.2.2.1 0)), (2, .ref (G2.2.2.1 0)), (3, .int i)]) (hrm : cells + 9000 ≤ room_1.cells ∧ slots + 110000 ≤ room_1.slots) (kk : NX RR p l e s m b below meth c cells slots Q GC G2 ls) : W p l e room_1 s m #[Value.ref b] below meth c H [] cells slots Q (F0 m 397 ls []) := by
  have hal := K.2.2.2.2.2.2.2
  have hx := K.1.1.1
  have hb := K.1.1.2.1
  have hown := K.1.1.2.2.2.1
  have hts := K.1.1.2.2.2.2
  have hsx := K.2.2.1
  have hbl := K.2.2.2.1
  have hbA : ¬ GC.2.2.2.1 b := fun q => absurd (K.2.2.2.2.1 b q) (Nat.not_le.mpr hbl)
  refine lv_aload_n hx hb dL_law_397 rfl (lv_at hl 1 rfl) ?_
  refine lv_aload_n hx hb dL_law_398 rfl (lv_at hl 0 rfl) ?_
  refine lv_iload_n hx hb dL_law_399 rfl (lv_at hl 3 rfl) ?_
  refine lv_iconst (v := (1 : Int32)) hx hb dL_law_400 (by decide) ?_
  refine lv_iadd hx hb dL_law_401 ?_
  refine va_sld hx hb hsx hbl hbA hC.2 hpl.2.1 dL_law_402 ?_
  refine lv_aload_n hx hb dL_law_403 rfl (lv_at hl 0 rfl) ?_
  refine lv_iload_n hx hb dL_law_404 rfl (lv_at hl 3 rfl) ?_
  refine lv_iconst (v := (2 : Int32)) hx hb dL_law_405 (by decide) ?_
  refine lv_iadd hx hb dL_law_406 ?_
  refine va_sld hx hb hsx hbl hbA hC.2 hpl.2.2.1 dL_law_407 ?_
  refine lv_aload_n hx hb dL_law_408 rfl (lv_at hl 0 rfl) ?_
  refine lv_iload_n hx hb dL_law_409 rfl (lv_at hl 3 rfl) ?_
  refine lv_iconst (v := (3 : Int32)) hx hb dL_law_410 (by decide) ?_
  refine lv_iadd hx hb dL_law_411 ?_
  refine va_sld hx hb hsx hbl hbA hC.2 hpl.2.2.2.1 dL_law_412 ?_
  obtain ⟨r, uC, e1, hop⟩ := hop (xs (i + (1 : Int32)).toNatClampNeg) (xs (i + (2 : Int32)).toNatClampNeg) (xs (i + (3 : Int32)).toNatClampNeg)
  refine w_calli (r0 := r) (u0 := uC) (r_runV (As := [.int (xs (i + (1 : Int32)).toNatClampNeg), .int (xs (i + (2 : Int32)).toNatClampNeg), .int (xs (i + (3 : Int32)).toNatClampNeg)]) (rest := []) K.1 hC 0 cp_c0 lk_0 (mt_X0_mend l GC hal σC (xs (i + (1 : Int32)).toNatClampNeg) (xs (i + (2 : Int32)).toNatClampNeg) (xs (i + (3 : Int32)).toNatClampNeg) e1) (cwV 3 hts (lw_V q645 q646 q647 q110 q648) rfl rfl rfl ⟨rfl, cdX0_mend⟩ ⟨(Nat.le_of_ble_eq_true rfl), (Nat.le_of_ble_eq_true rfl)⟩) rfl hl.1 rfl (Nat.le_of_ble_eq_true rfl) dL_law_413 ⟨Nat.le_trans (Nat.add_le_add_left (by decide : 1 ≤ 9000) _) hrm.1, Nat.le_trans (Nat.add_le_add_left (by decide : 4 ≤ 110000) _) hrm.2⟩) ci_sm hC hT K.2.2.2.2.1 K.2.2.2.2.2.2.1 (fun vC vT H sC sT hC hT => ?_)
  have hR0 := hsm _ _ _ _ hR (sm_rf _) sT
  obtain ⟨uT, e2, hR2⟩ := hop vT sT
  refine lv_aload_n hx hb dL_law_416 rfl (lv_at hl 2 rfl) ?_
  refine lv_aload_n hx hb dL_law_417 rfl (lv_at hl 0 rfl) ?_
  refine lv_iload_n hx hb dL_law_418 rfl (lv_at hl 3 rfl) ?_
  refine lv_iconst (v := (1 : Int32)) hx hb dL_law_419 (by decide) ?_
  refine lv_iadd hx hb dL_law_420 ?_
  refine va_sld hx hb hsx hbl hbA hC.2 hpl.2.1 dL_law_421 ?_
  refine lv_aload_n hx hb dL_law_422 rfl (lv_at hl 0 rfl) ?_
  refine lv_iload_n hx hb dL_law_423 rfl (lv_at hl 3 rfl) ?_
  refine lv_iconst (v := (2 : Int32)) hx hb dL_law_424 (by decide) ?_
  refine lv_iadd hx hb dL_law_425 ?_
  refine va_sld hx hb hsx hbl hbA hC.2 hpl.2.2.1 dL_law_426 ?_
  refine lv_aload_n hx hb dL_law_427 rfl (lv_at hl 0 rfl) ?_
  refine lv_iload_n hx hb dL_law_428 rfl (lv_at hl 3 rfl) ?_
  refine lv_iconst (v := (3 : Int32)) hx hb dL_law_429 (by decide) ?_
  refine lv_iadd hx hb dL_law_430 ?_
  refine va_sld hx hb hsx hbl hbA hC.2 hpl.2.2.2.1 dL_law_431 ?_
  refine w_calli (r0 := r) (u0 := uT) (r_runV (As := [.int (xs (i + (1 : Int32)).toNatClampNeg), .int (xs (i + (2 : Int32)).toNatClampNeg), .int (xs (i + (3 : Int32)).toNatClampNeg)]) (rest := [.int r]) K.2.1 hT 0 tw_c0 lk_3 (mt_X3_mend l G2 vT (xs (i + (1 : Int32)).toNatClampNeg) (xs (i + (2 : Int32)).toNatClampNeg) (xs (i + (3 : Int32)).toNatClampNeg) e2) (cwV 3 hts (lw_V q1923 q1924 q1925 q113 q1926) rfl rfl rfl ⟨rfl, cdX3_mend⟩ ⟨(Nat.le_of_ble_eq_true rfl), (Nat.le_of_ble_eq_true rfl)⟩) rfl hl.1 rfl (Nat.le_of_ble_eq_true rfl) dL_law_432 ⟨Nat.le_trans (Nat.add_le_add_left (by decide : 1 ≤ 9000) _) hrm.1, Nat.le_trans (Nat.add_le_add_left (by decide : 4 ≤ 110000) _) hrm.2⟩) ci_sm hT hC K.2.2.2.2.2.1 (fun q h1 h2 => K.2.2.2.2.2.2.1 q h2 h1) (fun wT wC H sT2 sC2 hT hC => ?_)
  refine lv_icmp_eq (tgt := 1193) hx hb dL_law_435 (by decide) (fun _ => ?_) (fun hne => absurd rfl hne)
  refine W.widen (k := cells + 9000) (n := slots + 110000) (Nat.add_le_add_left (by decide : 1 ≤ 9000) _) (Nat.add_le_add_left (by decide : 4 ≤ 110000) _) ?_
  exact kk _ _ _ hC hT (hsm _ _ _ _ hR2 (sm_tr sC2 sC) sT2)
end LWC
def OP_of8 (RR : ST → ST → Prop) (x0 : Nat) (ks : Nat → ClassId) (σC σT : ST) : Prop := ∀ (a0 : Int32) (a1 : Int32), ∃ (r : Int32), cp_of σC a0 a1 = some r ∧ ∀ vT, sm vT σT → tw_of vT a0 a1 = some r ∧ RR σC vT
section LWC
variable {p : Program} {l : Launch} {e : Env} {s : State} {m : MethodId} {below : List Frame} {meth : Method} {c : Code} {H : Heap} {cells slots : Nat} {Q : State → Prop} {b L : Nat} {xs : Nat → Int32} {GC G2 : GT} {σC σT : ST} {ls : Array Slot} {i : Int32} {RR : ST → ST → Prop}
theorem lw_c8 (K : LC p s m c b L xs GC G2) (hlt : l.stackTraces = false) (hsm : ∀ a0 b0 a1 b1 : ST, RR a0 b0 → sm a1 a0 → sm b1 b0 → RR a1 b1) (hC : PS cp_ft GC s σC H []) (hT : PS tw_ft G2 s σT H []) (hR : RR σC σT) (hop : OP_of8 RR (GC.2.2.1 0) GC.2.1 σC σT) (hpl : pl_ L i) (hl : lv_has ls 4 [(0, .ref b), (1, .ref (GC.2.2.1 0)), (2, .ref (G2.2.2.1 0)), (3, .int i)]) (hrm : cells + 9000 ≤ room_1.cells ∧ slots + 110000 ≤ room_1.slots) (kk : NX RR p l e s m b below meth c cells slots Q GC G2 ls) : W p l e room_1 s m #[Value.ref b] below meth c H [] cells slots Q (F0 m 440 ls []) := by
  have hal := K.2.2.2.2.2.2.2
  have hx := K.1.1.1
  have hb := K.1.1.2.1
  have hown := K.1.1.2.2.2.1
  have hts := K.1.1.2.2.2.2
  have hsx := K.2.2.1
  have hbl := K.2.2.2.1
  have hbA : ¬ GC.2.2.2.1 b := fun q => absurd (K.2.2.2.2.1 b q) (Nat.not_le.mpr hbl)
  refine lv_aload_n hx hb dL_law_440 rfl (lv_at hl 1 rfl) ?_
  refine lv_aload_n hx hb dL_law_441 rfl (lv_at hl 0 rfl) ?_
  refine lv_iload_n hx hb dL_law_442 rfl (lv_at hl 3 rfl) ?_
  refine lv_iconst (v := (1 : Int32)) hx hb dL_law_443 (by decide) ?_
  refine lv_iadd hx hb dL_law_444 ?_
  refine va_sld hx hb hsx hbl hbA hC.2 hpl.2.1 dL_law_445 ?_
  refine lv_aload_n hx hb dL_law_446 rfl (lv_at hl 0 rfl) ?_
  refine lv_iload_n hx hb dL_law_447 rfl (lv_at hl 3 rfl) ?_
  refine lv_iconst (v := (2 : Int32)) hx hb dL_law_448 (by decide) ?_
  refine lv_iadd hx hb dL_law_449 ?_
  refine va_sld hx hb hsx hbl hbA hC.2 hpl.2.2.1 dL_law_450 ?_
  obtain ⟨r, e1, hop⟩ := hop (xs (i + (1 : Int32)).toNatClampNeg) (xs (i + (2 : Int32)).toNatClampNeg)
  refine w_calli (r0 := r) (u0 := σC) (r_runV (As := [.int (xs (i + (1 : Int32)).toNatClampNeg), .int (xs (i + (2 : Int32)).toNatClampNeg)]) (rest := []) K.1 hC 0 cp_c0 lk_0 (mt_X0_of l GC σC (xs (i + (1 : Int32)).toNatClampNeg) (xs (i + (2 : Int32)).toNatClampNeg) e1) (cwV 2 hts (lw_V q624 q625 q626 q110 q627) rfl rfl rfl ⟨rfl, cdX0_of⟩ ⟨(Nat.le_of_ble_eq_true rfl), (Nat.le_of_ble_eq_true rfl)⟩) rfl hl.1 rfl (Nat.le_of_ble_eq_true rfl) dL_law_451 ⟨Nat.le_trans (Nat.add_le_add_left (by decide : 0 ≤ 9000) _) hrm.1, Nat.le_trans (Nat.add_le_add_left (by decide : 0 ≤ 110000) _) hrm.2⟩) ci_sm hC hT K.2.2.2.2.1 K.2.2.2.2.2.2.1 (fun vC vT H sC sT hC hT => ?_)
  have hR0 := hsm _ _ _ _ hR (sm_rf _) sT
  obtain ⟨e2, hR2⟩ := hop vT sT
  refine lv_aload_n hx hb dL_law_454 rfl (lv_at hl 2 rfl) ?_
  refine lv_aload_n hx hb dL_law_455 rfl (lv_at hl 0 rfl) ?_
  refine lv_iload_n hx hb dL_law_456 rfl (lv_at hl 3 rfl) ?_
  refine lv_iconst (v := (1 : Int32)) hx hb dL_law_457 (by decide) ?_
  refine lv_iadd hx hb dL_law_458 ?_
  refine va_sld hx hb hsx hbl hbA hC.2 hpl.2.1 dL_law_459 ?_
  refine lv_aload_n hx hb dL_law_460 rfl (lv_at hl 0 rfl) ?_
  refine lv_iload_n hx hb dL_law_461 rfl (lv_at hl 3 rfl) ?_
  refine lv_iconst (v := (2 : Int32)) hx hb dL_law_462 (by decide) ?_
  refine lv_iadd hx hb dL_law_463 ?_
  refine va_sld hx hb hsx hbl hbA hC.2 hpl.2.2.1 dL_law_464 ?_
  refine w_calli (r0 := r) (u0 := vT) (r_runV (As := [.int (xs (i + (1 : Int32)).toNatClampNeg), .int (xs (i + (2 : Int32)).toNatClampNeg)]) (rest := [.int r]) K.2.1 hT 0 tw_c0 lk_3 (mt_X3_of l G2 vT (xs (i + (1 : Int32)).toNatClampNeg) (xs (i + (2 : Int32)).toNatClampNeg) e2) (cwV 2 hts (lw_V q1940 q1941 q1942 q113 q1943) rfl rfl rfl ⟨rfl, cdX3_of⟩ ⟨(Nat.le_of_ble_eq_true rfl), (Nat.le_of_ble_eq_true rfl)⟩) rfl hl.1 rfl (Nat.le_of_ble_eq_true rfl) dL_law_465 ⟨Nat.le_trans (Nat.add_le_add_left (by decide : 0 ≤ 9000) _) hrm.1, Nat.le_trans (Nat.add_le_add_left (by decide : 0 ≤ 110000) _) hrm.2⟩) ci_sm hT hC K.2.2.2.2.2.1 (fun q h1 h2 => K.2.2.2.2.2.2.1 q h2 h1) (fun wT wC H sT2 sC2 hT hC => ?_)
  refine lv_icmp_eq (tgt := 1193) hx hb dL_law_468 (by decide) (fun _ => ?_) (fun hne => absurd rfl hne)
  refine W.widen (k := cells + 9000) (n := slots + 110000) (Nat.add_le_add_left (by decide : 0 ≤ 9000) _) (Nat.add_le_add_left (by decide : 0 ≤ 110000) _) ?_
  exact kk _ _ _ hC hT (hsm _ _ _ _ hR2 (sm_tr sC2 sC) sT2)
end LWC
def OP_meet9 (RR : ST → ST → Prop) (x0 : Nat) (ks : Nat → ClassId) (σC σT : ST) : Prop := ∀ (a0 : Int32), ∃ (r : Int32) (uC : ST), cp_meet σC a0 = some (r, uC) ∧ ∀ vT, sm vT σT → ∃ uT : ST, tw_meet vT a0 = some (r, uT) ∧ RR uC uT
section LWC
variable {p : Program} {l : Launch} {e : Env} {s : State} {m : MethodId} {below : List Frame} {meth : Method} {c : Code} {H : Heap} {cells slots : Nat} {Q : State → Prop} {b L : Nat} {xs : Nat → Int32} {GC G2 : GT} {σC σT : ST} {ls : Array Slot} {i : Int32} {RR : ST → ST → Prop}
theorem lw_c9 (K : LC p s m c b L xs GC G2) (hlt : l.stackTraces = false) (hsm : ∀ a0 b0 a1 b1 : ST, RR a0 b0 → sm a1 a0 → sm b1 b0 → RR a1 b1) (hC : PS cp_ft GC s σC H []) (hT : PS tw_ft G2 s σT H []) (hR : RR σC σT) (hop : OP_meet9 RR (GC.2.2.1 0) GC.2.1 σC σT) (hpl : pl_ L i) (hl : lv_has ls 4 [(0, .ref b), (1, .ref (GC.2.2.1 0)), (2, .ref (G2.2.2.1 0)), (3, .int i)]) (hrm : cells + 9000 ≤ room_1.cells ∧ slots + 110000 ≤ room_1.slots) (kk : NX RR p l e s m b below meth c cells slots Q GC G2 ls) : W p l e room_1 s m #[Value.ref b] below meth c H [] cells slots Q (F0 m 473 ls []) := by
  have hal := K.2.2.2.2.2.2.2
  have hx := K.1.1.1
  have hb := K.1.1.2.1
  have hown := K.1.1.2.2.2.1
  have hts := K.1.1.2.2.2.2
  have hsx := K.2.2.1
  have hbl := K.2.2.2.1
  have hbA : ¬ GC.2.2.2.1 b := fun q => absurd (K.2.2.2.2.1 b q) (Nat.not_le.mpr hbl)
  refine lv_aload_n hx hb dL_law_473 rfl (lv_at hl 1 rfl) ?_
  refine lv_aload_n hx hb dL_law_474 rfl (lv_at hl 0 rfl) ?_
  refine lv_iload_n hx hb dL_law_475 rfl (lv_at hl 3 rfl) ?_
  refine lv_iconst (v := (1 : Int32)) hx hb dL_law_476 (by decide) ?_
  refine lv_iadd hx hb dL_law_477 ?_
  refine va_sld hx hb hsx hbl hbA hC.2 hpl.2.1 dL_law_478 ?_
  obtain ⟨r, uC, e1, hop⟩ := hop (xs (i + (1 : Int32)).toNatClampNeg)
  refine w_calli (r0 := r) (u0 := uC) (r_runV (As := [.int (xs (i + (1 : Int32)).toNatClampNeg)]) (rest := []) K.1 hC 0 cp_c0 lk_0 (mt_X0_meet l GC σC (xs (i + (1 : Int32)).toNatClampNeg) e1) (cwV 1 hts (lw_V q924 q925 q926 q110 q927) rfl rfl rfl ⟨rfl, cdX0_meet⟩ ⟨(Nat.le_of_ble_eq_true rfl), (Nat.le_of_ble_eq_true rfl)⟩) rfl hl.1 rfl (Nat.le_of_ble_eq_true rfl) dL_law_479 ⟨Nat.le_trans (Nat.add_le_add_left (by decide : 0 ≤ 9000) _) hrm.1, Nat.le_trans (Nat.add_le_add_left (by decide : 0 ≤ 110000) _) hrm.2⟩) ci_sm hC hT K.2.2.2.2.1 K.2.2.2.2.2.2.1 (fun vC vT H sC sT hC hT => ?_)
  have hR0 := hsm _ _ _ _ hR (sm_rf _) sT
  obtain ⟨uT, e2, hR2⟩ := hop vT sT
  refine lv_aload_n hx hb dL_law_482 rfl (lv_at hl 2 rfl) ?_
  refine lv_aload_n hx hb dL_law_483 rfl (lv_at hl 0 rfl) ?_
  refine lv_iload_n hx hb dL_law_484 rfl (lv_at hl 3 rfl) ?_
  refine lv_iconst (v := (1 : Int32)) hx hb dL_law_485 (by decide) ?_
  refine lv_iadd hx hb dL_law_486 ?_
  refine va_sld hx hb hsx hbl hbA hC.2 hpl.2.1 dL_law_487 ?_
  refine w_calli (r0 := r) (u0 := uT) (r_runV (As := [.int (xs (i + (1 : Int32)).toNatClampNeg)]) (rest := [.int r]) K.2.1 hT 0 tw_c0 lk_3 (mt_X3_meet l G2 vT (xs (i + (1 : Int32)).toNatClampNeg) e2) (cwV 1 hts (lw_V q2000 q2001 q2002 q113 q2003) rfl rfl rfl ⟨rfl, cdX3_meet⟩ ⟨(Nat.le_of_ble_eq_true rfl), (Nat.le_of_ble_eq_true rfl)⟩) rfl hl.1 rfl (Nat.le_of_ble_eq_true rfl) dL_law_488 ⟨Nat.le_trans (Nat.add_le_add_left (by decide : 0 ≤ 9000) _) hrm.1, Nat.le_trans (Nat.add_le_add_left (by decide : 0 ≤ 110000) _) hrm.2⟩) ci_sm hT hC K.2.2.2.2.2.1 (fun q h1 h2 => K.2.2.2.2.2.2.1 q h2 h1) (fun wT wC H sT2 sC2 hT hC => ?_)
  refine lv_icmp_eq (tgt := 1193) hx hb dL_law_491 (by decide) (fun _ => ?_) (fun hne => absurd rfl hne)
  refine W.widen (k := cells + 9000) (n := slots + 110000) (Nat.add_le_add_left (by decide : 0 ≤ 9000) _) (Nat.add_le_add_left (by decide : 0 ≤ 110000) _) ?_
  exact kk _ _ _ hC hT (hsm _ _ _ _ hR2 (sm_tr sC2 sC) sT2)
end LWC
def OP_told10 (RR : ST → ST → Prop) (x0 : Nat) (ks : Nat → ClassId) (σC σT : ST) : Prop := ∀ (a0 : Int32), ∃ (r : Int32), cp_told σC a0 = some r ∧ ∀ vT, sm vT σT → tw_told vT a0 = some r ∧ RR σC vT
section LWC
variable {p : Program} {l : Launch} {e : Env} {s : State} {m : MethodId} {below : List Frame} {meth : Method} {c : Code} {H : Heap} {cells slots : Nat} {Q : State → Prop} {b L : Nat} {xs : Nat → Int32} {GC G2 : GT} {σC σT : ST} {ls : Array Slot} {i : Int32} {RR : ST → ST → Prop}
theorem lw_c10 (K : LC p s m c b L xs GC G2) (hlt : l.stackTraces = false) (hsm : ∀ a0 b0 a1 b1 : ST, RR a0 b0 → sm a1 a0 → sm b1 b0 → RR a1 b1) (hC : PS cp_ft GC s σC H []) (hT : PS tw_ft G2 s σT H []) (hR : RR σC σT) (hop : OP_told10 RR (GC.2.2.1 0) GC.2.1 σC σT) (hpl : pl_ L i) (hl : lv_has ls 4 [(0, .ref b), (1, .ref (GC.2.2.1 0)), (2, .ref (G2.2.2.1 0)), (3, .int i)]) (hrm : cells + 9000 ≤ room_1.cells ∧ slots + 110000 ≤ room_1.slots) (kk : NX RR p l e s m b below meth c cells slots Q GC G2 ls) : W p l e room_1 s m #[Value.ref b] below meth c H [] cells slots Q (F0 m 496 ls []) := by
  have hal := K.2.2.2.2.2.2.2
  have hx := K.1.1.1
  have hb := K.1.1.2.1
  have hown := K.1.1.2.2.2.1
  have hts := K.1.1.2.2.2.2
  have hsx := K.2.2.1
  have hbl := K.2.2.2.1
  have hbA : ¬ GC.2.2.2.1 b := fun q => absurd (K.2.2.2.2.1 b q) (Nat.not_le.mpr hbl)
  refine lv_aload_n hx hb dL_law_496 rfl (lv_at hl 1 rfl) ?_
  refine lv_aload_n hx hb dL_law_497 rfl (lv_at hl 0 rfl) ?_
  refine lv_iload_n hx hb dL_law_498 rfl (lv_at hl 3 rfl) ?_
  refine lv_iconst (v := (1 : Int32)) hx hb dL_law_499 (by decide) ?_
  refine lv_iadd hx hb dL_law_500 ?_
  refine va_sld hx hb hsx hbl hbA hC.2 hpl.2.1 dL_law_501 ?_
  obtain ⟨r, e1, hop⟩ := hop (xs (i + (1 : Int32)).toNatClampNeg)
  refine w_calli (r0 := r) (u0 := σC) (r_runV (As := [.int (xs (i + (1 : Int32)).toNatClampNeg)]) (rest := []) K.1 hC 0 cp_c0 lk_0 (mt_X0_told l GC σC (xs (i + (1 : Int32)).toNatClampNeg) e1) (cwV 1 hts (lw_V q1093 q1094 q1095 q110 q1096) rfl rfl rfl ⟨rfl, cdX0_told⟩ ⟨(Nat.le_of_ble_eq_true rfl), (Nat.le_of_ble_eq_true rfl)⟩) rfl hl.1 rfl (Nat.le_of_ble_eq_true rfl) dL_law_502 ⟨Nat.le_trans (Nat.add_le_add_left (by decide : 0 ≤ 9000) _) hrm.1, Nat.le_trans (Nat.add_le_add_left (by decide : 0 ≤ 110000) _) hrm.2⟩) ci_sm hC hT K.2.2.2.2.1 K.2.2.2.2.2.2.1 (fun vC vT H sC sT hC hT => ?_)
  have hR0 := hsm _ _ _ _ hR (sm_rf _) sT
  obtain ⟨e2, hR2⟩ := hop vT sT
  refine lv_aload_n hx hb dL_law_505 rfl (lv_at hl 2 rfl) ?_
  refine lv_aload_n hx hb dL_law_506 rfl (lv_at hl 0 rfl) ?_
  refine lv_iload_n hx hb dL_law_507 rfl (lv_at hl 3 rfl) ?_
  refine lv_iconst (v := (1 : Int32)) hx hb dL_law_508 (by decide) ?_
  refine lv_iadd hx hb dL_law_509 ?_
  refine va_sld hx hb hsx hbl hbA hC.2 hpl.2.1 dL_law_510 ?_
  refine w_calli (r0 := r) (u0 := vT) (r_runV (As := [.int (xs (i + (1 : Int32)).toNatClampNeg)]) (rest := [.int r]) K.2.1 hT 0 tw_c0 lk_3 (mt_X3_told l G2 vT (xs (i + (1 : Int32)).toNatClampNeg) e2) (cwV 1 hts (lw_V q2138 q2139 q2140 q113 q2141) rfl rfl rfl ⟨rfl, cdX3_told⟩ ⟨(Nat.le_of_ble_eq_true rfl), (Nat.le_of_ble_eq_true rfl)⟩) rfl hl.1 rfl (Nat.le_of_ble_eq_true rfl) dL_law_511 ⟨Nat.le_trans (Nat.add_le_add_left (by decide : 0 ≤ 9000) _) hrm.1, Nat.le_trans (Nat.add_le_add_left (by decide : 0 ≤ 110000) _) hrm.2⟩) ci_sm hT hC K.2.2.2.2.2.1 (fun q h1 h2 => K.2.2.2.2.2.2.1 q h2 h1) (fun wT wC H sT2 sC2 hT hC => ?_)
  refine lv_icmp_eq (tgt := 1193) hx hb dL_law_514 (by decide) (fun _ => ?_) (fun hne => absurd rfl hne)
  refine W.widen (k := cells + 9000) (n := slots + 110000) (Nat.add_le_add_left (by decide : 0 ≤ 9000) _) (Nat.add_le_add_left (by decide : 0 ≤ 110000) _) ?_
  exact kk _ _ _ hC hT (hsm _ _ _ _ hR2 (sm_tr sC2 sC) sT2)
end LWC
def OP_saying11 (RR : ST → ST → Prop) (x0 : Nat) (ks : Nat → ClassId) (σC σT : ST) : Prop := ∀ (a0 : Int32) (a1 : Int32), ∃ (r : Int32), cp_saying σC a0 a1 = some r ∧ ∀ vT, sm vT σT → tw_saying vT a0 a1 = some r ∧ RR σC vT
section LWC
variable {p : Program} {l : Launch} {e : Env} {s : State} {m : MethodId} {below : List Frame} {meth : Method} {c : Code} {H : Heap} {cells slots : Nat} {Q : State → Prop} {b L : Nat} {xs : Nat → Int32} {GC G2 : GT} {σC σT : ST} {ls : Array Slot} {i : Int32} {RR : ST → ST → Prop}
theorem lw_c11 (K : LC p s m c b L xs GC G2) (hlt : l.stackTraces = false) (hsm : ∀ a0 b0 a1 b1 : ST, RR a0 b0 → sm a1 a0 → sm b1 b0 → RR a1 b1) (hC : PS cp_ft GC s σC H []) (hT : PS tw_ft G2 s σT H []) (hR : RR σC σT) (hop : OP_saying11 RR (GC.2.2.1 0) GC.2.1 σC σT) (hpl : pl_ L i) (hl : lv_has ls 4 [(0, .ref b), (1, .ref (GC.2.2.1 0)), (2, .ref (G2.2.2.1 0)), (3, .int i)]) (hrm : cells + 9000 ≤ room_1.cells ∧ slots + 110000 ≤ room_1.slots) (kk : NX RR p l e s m b below meth c cells slots Q GC G2 ls) : W p l e room_1 s m #[Value.ref b] below meth c H [] cells slots Q (F0 m 519 ls []) := by
  have hal := K.2.2.2.2.2.2.2
  have hx := K.1.1.1
  have hb := K.1.1.2.1
  have hown := K.1.1.2.2.2.1
  have hts := K.1.1.2.2.2.2
  have hsx := K.2.2.1
  have hbl := K.2.2.2.1
  have hbA : ¬ GC.2.2.2.1 b := fun q => absurd (K.2.2.2.2.1 b q) (Nat.not_le.mpr hbl)
  refine lv_aload_n hx hb dL_law_519 rfl (lv_at hl 1 rfl) ?_
  refine lv_aload_n hx hb dL_law_520 rfl (lv_at hl 0 rfl) ?_
  refine lv_iload_n hx hb dL_law_521 rfl (lv_at hl 3 rfl) ?_
  refine lv_iconst (v := (1 : Int32)) hx hb dL_law_522 (by decide) ?_
  refine lv_iadd hx hb dL_law_523 ?_
  refine va_sld hx hb hsx hbl hbA hC.2 hpl.2.1 dL_law_524 ?_
  refine lv_aload_n hx hb dL_law_525 rfl (lv_at hl 0 rfl) ?_
  refine lv_iload_n hx hb dL_law_526 rfl (lv_at hl 3 rfl) ?_
  refine lv_iconst (v := (2 : Int32)) hx hb dL_law_527 (by decide) ?_
  refine lv_iadd hx hb dL_law_528 ?_
  refine va_sld hx hb hsx hbl hbA hC.2 hpl.2.2.1 dL_law_529 ?_
  obtain ⟨r, e1, hop⟩ := hop (xs (i + (1 : Int32)).toNatClampNeg) (xs (i + (2 : Int32)).toNatClampNeg)
  refine w_calli (r0 := r) (u0 := σC) (r_runV (As := [.int (xs (i + (1 : Int32)).toNatClampNeg), .int (xs (i + (2 : Int32)).toNatClampNeg)]) (rest := []) K.1 hC 0 cp_c0 lk_0 (mt_X0_saying l GC σC (xs (i + (1 : Int32)).toNatClampNeg) (xs (i + (2 : Int32)).toNatClampNeg) e1) (cwV 2 hts (lw_V q1097 q1098 q1099 q110 q1100) rfl rfl rfl ⟨rfl, cdX0_saying⟩ ⟨(Nat.le_of_ble_eq_true rfl), (Nat.le_of_ble_eq_true rfl)⟩) rfl hl.1 rfl (Nat.le_of_ble_eq_true rfl) dL_law_530 ⟨Nat.le_trans (Nat.add_le_add_left (by decide : 0 ≤ 9000) _) hrm.1, Nat.le_trans (Nat.add_le_add_left (by decide : 0 ≤ 110000) _) hrm.2⟩) ci_sm hC hT K.2.2.2.2.1 K.2.2.2.2.2.2.1 (fun vC vT H sC sT hC hT => ?_)
  have hR0 := hsm _ _ _ _ hR (sm_rf _) sT
  obtain ⟨e2, hR2⟩ := hop vT sT
  refine lv_aload_n hx hb dL_law_533 rfl (lv_at hl 2 rfl) ?_
  refine lv_aload_n hx hb dL_law_534 rfl (lv_at hl 0 rfl) ?_
  refine lv_iload_n hx hb dL_law_535 rfl (lv_at hl 3 rfl) ?_
  refine lv_iconst (v := (1 : Int32)) hx hb dL_law_536 (by decide) ?_
  refine lv_iadd hx hb dL_law_537 ?_
  refine va_sld hx hb hsx hbl hbA hC.2 hpl.2.1 dL_law_538 ?_
  refine lv_aload_n hx hb dL_law_539 rfl (lv_at hl 0 rfl) ?_
  refine lv_iload_n hx hb dL_law_540 rfl (lv_at hl 3 rfl) ?_
  refine lv_iconst (v := (2 : Int32)) hx hb dL_law_541 (by decide) ?_
  refine lv_iadd hx hb dL_law_542 ?_
  refine va_sld hx hb hsx hbl hbA hC.2 hpl.2.2.1 dL_law_543 ?_
  refine w_calli (r0 := r) (u0 := vT) (r_runV (As := [.int (xs (i + (1 : Int32)).toNatClampNeg), .int (xs (i + (2 : Int32)).toNatClampNeg)]) (rest := [.int r]) K.2.1 hT 0 tw_c0 lk_3 (mt_X3_saying l G2 vT (xs (i + (1 : Int32)).toNatClampNeg) (xs (i + (2 : Int32)).toNatClampNeg) e2) (cwV 2 hts (lw_V q2142 q2143 q2144 q113 q2145) rfl rfl rfl ⟨rfl, cdX3_saying⟩ ⟨(Nat.le_of_ble_eq_true rfl), (Nat.le_of_ble_eq_true rfl)⟩) rfl hl.1 rfl (Nat.le_of_ble_eq_true rfl) dL_law_544 ⟨Nat.le_trans (Nat.add_le_add_left (by decide : 0 ≤ 9000) _) hrm.1, Nat.le_trans (Nat.add_le_add_left (by decide : 0 ≤ 110000) _) hrm.2⟩) ci_sm hT hC K.2.2.2.2.2.1 (fun q h1 h2 => K.2.2.2.2.2.2.1 q h2 h1) (fun wT wC H sT2 sC2 hT hC => ?_)
  refine lv_icmp_eq (tgt := 1193) hx hb dL_law_547 (by decide) (fun _ => ?_) (fun hne => absurd rfl hne)
  refine W.widen (k := cells + 9000) (n := slots + 110000) (Nat.add_le_add_left (by decide : 0 ≤ 9000) _) (Nat.add_le_add_left (by decide : 0 ≤ 110000) _) ?_
  exact kk _ _ _ hC hT (hsm _ _ _ _ hR2 (sm_tr sC2 sC) sT2)
end LWC
def OP_took12 (RR : ST → ST → Prop) (x0 : Nat) (ks : Nat → ClassId) (σC σT : ST) : Prop := ∀ (a0 : Int32) (a1 : Int32), ∃ (r : Int32), cp_took σC a0 a1 = some r ∧ ∀ vT, sm vT σT → tw_took vT a0 a1 = some r ∧ RR σC vT
section LWC
variable {p : Program} {l : Launch} {e : Env} {s : State} {m : MethodId} {below : List Frame} {meth : Method} {c : Code} {H : Heap} {cells slots : Nat} {Q : State → Prop} {b L : Nat} {xs : Nat → Int32} {GC G2 : GT} {σC σT : ST} {ls : Array Slot} {i : Int32} {RR : ST → ST → Prop}
theorem lw_c12 (K : LC p s m c b L xs GC G2) (hlt : l.stackTraces = false) (hsm : ∀ a0 b0 a1 b1 : ST, RR a0 b0 → sm a1 a0 → sm b1 b0 → RR a1 b1) (hC : PS cp_ft GC s σC H []) (hT : PS tw_ft G2 s σT H []) (hR : RR σC σT) (hop : OP_took12 RR (GC.2.2.1 0) GC.2.1 σC σT) (hpl : pl_ L i) (hl : lv_has ls 4 [(0, .ref b), (1, .ref (GC.2.2.1 0)), (2, .ref (G2.2.2.1 0)), (3, .int i)]) (hrm : cells + 9000 ≤ room_1.cells ∧ slots + 110000 ≤ room_1.slots) (kk : NX RR p l e s m b below meth c cells slots Q GC G2 ls) : W p l e room_1 s m #[Value.ref b] below meth c H [] cells slots Q (F0 m 552 ls []) := by
  have hal := K.2.2.2.2.2.2.2
  have hx := K.1.1.1
  have hb := K.1.1.2.1
  have hown := K.1.1.2.2.2.1
  have hts := K.1.1.2.2.2.2
  have hsx := K.2.2.1
  have hbl := K.2.2.2.1
  have hbA : ¬ GC.2.2.2.1 b := fun q => absurd (K.2.2.2.2.1 b q) (Nat.not_le.mpr hbl)
  refine lv_aload_n hx hb dL_law_552 rfl (lv_at hl 1 rfl) ?_
  refine lv_aload_n hx hb dL_law_553 rfl (lv_at hl 0 rfl) ?_
  refine lv_iload_n hx hb dL_law_554 rfl (lv_at hl 3 rfl) ?_
  refine lv_iconst (v := (1 : Int32)) hx hb dL_law_555 (by decide) ?_
  refine lv_iadd hx hb dL_law_556 ?_
  refine va_sld hx hb hsx hbl hbA hC.2 hpl.2.1 dL_law_557 ?_
  refine lv_aload_n hx hb dL_law_558 rfl (lv_at hl 0 rfl) ?_
  refine lv_iload_n hx hb dL_law_559 rfl (lv_at hl 3 rfl) ?_
  refine lv_iconst (v := (2 : Int32)) hx hb dL_law_560 (by decide) ?_
  refine lv_iadd hx hb dL_law_561 ?_
  refine va_sld hx hb hsx hbl hbA hC.2 hpl.2.2.1 dL_law_562 ?_
  obtain ⟨r, e1, hop⟩ := hop (xs (i + (1 : Int32)).toNatClampNeg) (xs (i + (2 : Int32)).toNatClampNeg)
  refine w_calli (r0 := r) (u0 := σC) (r_runV (As := [.int (xs (i + (1 : Int32)).toNatClampNeg), .int (xs (i + (2 : Int32)).toNatClampNeg)]) (rest := []) K.1 hC 0 cp_c0 lk_0 (mt_X0_took l GC σC (xs (i + (1 : Int32)).toNatClampNeg) (xs (i + (2 : Int32)).toNatClampNeg) e1) (cwV 2 hts (lw_V q1101 q1102 q1103 q110 q1104) rfl rfl rfl ⟨rfl, cdX0_took⟩ ⟨(Nat.le_of_ble_eq_true rfl), (Nat.le_of_ble_eq_true rfl)⟩) rfl hl.1 rfl (Nat.le_of_ble_eq_true rfl) dL_law_563 ⟨Nat.le_trans (Nat.add_le_add_left (by decide : 0 ≤ 9000) _) hrm.1, Nat.le_trans (Nat.add_le_add_left (by decide : 0 ≤ 110000) _) hrm.2⟩) ci_sm hC hT K.2.2.2.2.1 K.2.2.2.2.2.2.1 (fun vC vT H sC sT hC hT => ?_)
  have hR0 := hsm _ _ _ _ hR (sm_rf _) sT
  obtain ⟨e2, hR2⟩ := hop vT sT
  refine lv_aload_n hx hb dL_law_566 rfl (lv_at hl 2 rfl) ?_
  refine lv_aload_n hx hb dL_law_567 rfl (lv_at hl 0 rfl) ?_
  refine lv_iload_n hx hb dL_law_568 rfl (lv_at hl 3 rfl) ?_
  refine lv_iconst (v := (1 : Int32)) hx hb dL_law_569 (by decide) ?_
  refine lv_iadd hx hb dL_law_570 ?_
  refine va_sld hx hb hsx hbl hbA hC.2 hpl.2.1 dL_law_571 ?_
  refine lv_aload_n hx hb dL_law_572 rfl (lv_at hl 0 rfl) ?_
  refine lv_iload_n hx hb dL_law_573 rfl (lv_at hl 3 rfl) ?_
  refine lv_iconst (v := (2 : Int32)) hx hb dL_law_574 (by decide) ?_
  refine lv_iadd hx hb dL_law_575 ?_
  refine va_sld hx hb hsx hbl hbA hC.2 hpl.2.2.1 dL_law_576 ?_
  refine w_calli (r0 := r) (u0 := vT) (r_runV (As := [.int (xs (i + (1 : Int32)).toNatClampNeg), .int (xs (i + (2 : Int32)).toNatClampNeg)]) (rest := [.int r]) K.2.1 hT 0 tw_c0 lk_3 (mt_X3_took l G2 vT (xs (i + (1 : Int32)).toNatClampNeg) (xs (i + (2 : Int32)).toNatClampNeg) e2) (cwV 2 hts (lw_V q2147 q2148 q2149 q113 q2150) rfl rfl rfl ⟨rfl, cdX3_took⟩ ⟨(Nat.le_of_ble_eq_true rfl), (Nat.le_of_ble_eq_true rfl)⟩) rfl hl.1 rfl (Nat.le_of_ble_eq_true rfl) dL_law_577 ⟨Nat.le_trans (Nat.add_le_add_left (by decide : 0 ≤ 9000) _) hrm.1, Nat.le_trans (Nat.add_le_add_left (by decide : 0 ≤ 110000) _) hrm.2⟩) ci_sm hT hC K.2.2.2.2.2.1 (fun q h1 h2 => K.2.2.2.2.2.2.1 q h2 h1) (fun wT wC H sT2 sC2 hT hC => ?_)
  refine lv_icmp_eq (tgt := 1193) hx hb dL_law_580 (by decide) (fun _ => ?_) (fun hne => absurd rfl hne)
  refine W.widen (k := cells + 9000) (n := slots + 110000) (Nat.add_le_add_left (by decide : 0 ≤ 9000) _) (Nat.add_le_add_left (by decide : 0 ≤ 110000) _) ?_
  exact kk _ _ _ hC hT (hsm _ _ _ _ hR2 (sm_tr sC2 sC) sT2)
end LWC
def OP_did13 (RR : ST → ST → Prop) (x0 : Nat) (ks : Nat → ClassId) (σC σT : ST) : Prop := ∀ (a0 : Int32) (a1 : Int32), ∃ (r : Int32), cp_did σC a0 a1 = some r ∧ ∀ vT, sm vT σT → tw_did vT a0 a1 = some r ∧ RR σC vT
section LWC
variable {p : Program} {l : Launch} {e : Env} {s : State} {m : MethodId} {below : List Frame} {meth : Method} {c : Code} {H : Heap} {cells slots : Nat} {Q : State → Prop} {b L : Nat} {xs : Nat → Int32} {GC G2 : GT} {σC σT : ST} {ls : Array Slot} {i : Int32} {RR : ST → ST → Prop}
theorem lw_c13 (K : LC p s m c b L xs GC G2) (hlt : l.stackTraces = false) (hsm : ∀ a0 b0 a1 b1 : ST, RR a0 b0 → sm a1 a0 → sm b1 b0 → RR a1 b1) (hC : PS cp_ft GC s σC H []) (hT : PS tw_ft G2 s σT H []) (hR : RR σC σT) (hop : OP_did13 RR (GC.2.2.1 0) GC.2.1 σC σT) (hpl : pl_ L i) (hl : lv_has ls 4 [(0, .ref b), (1, .ref (GC.2.2.1 0)), (2, .ref (G2.2.2.1 0)), (3, .int i)]) (hrm : cells + 9000 ≤ room_1.cells ∧ slots + 110000 ≤ room_1.slots) (kk : NX RR p l e s m b below meth c cells slots Q GC G2 ls) : W p l e room_1 s m #[Value.ref b] below meth c H [] cells slots Q (F0 m 585 ls []) := by
  have hal := K.2.2.2.2.2.2.2
  have hx := K.1.1.1
  have hb := K.1.1.2.1
  have hown := K.1.1.2.2.2.1
  have hts := K.1.1.2.2.2.2
  have hsx := K.2.2.1
  have hbl := K.2.2.2.1
  have hbA : ¬ GC.2.2.2.1 b := fun q => absurd (K.2.2.2.2.1 b q) (Nat.not_le.mpr hbl)
  refine lv_aload_n hx hb dL_law_585 rfl (lv_at hl 1 rfl) ?_
  refine lv_aload_n hx hb dL_law_586 rfl (lv_at hl 0 rfl) ?_
  refine lv_iload_n hx hb dL_law_587 rfl (lv_at hl 3 rfl) ?_
  refine lv_iconst (v := (1 : Int32)) hx hb dL_law_588 (by decide) ?_
  refine lv_iadd hx hb dL_law_589 ?_
  refine va_sld hx hb hsx hbl hbA hC.2 hpl.2.1 dL_law_590 ?_
  refine lv_aload_n hx hb dL_law_591 rfl (lv_at hl 0 rfl) ?_
  refine lv_iload_n hx hb dL_law_592 rfl (lv_at hl 3 rfl) ?_
  refine lv_iconst (v := (2 : Int32)) hx hb dL_law_593 (by decide) ?_
  refine lv_iadd hx hb dL_law_594 ?_
  refine va_sld hx hb hsx hbl hbA hC.2 hpl.2.2.1 dL_law_595 ?_
  obtain ⟨r, e1, hop⟩ := hop (xs (i + (1 : Int32)).toNatClampNeg) (xs (i + (2 : Int32)).toNatClampNeg)
  refine w_calli (r0 := r) (u0 := σC) (r_runV (As := [.int (xs (i + (1 : Int32)).toNatClampNeg), .int (xs (i + (2 : Int32)).toNatClampNeg)]) (rest := []) K.1 hC 0 cp_c0 lk_0 (mt_X0_did l GC σC (xs (i + (1 : Int32)).toNatClampNeg) (xs (i + (2 : Int32)).toNatClampNeg) e1) (cwV 2 hts (lw_V q1105 q1106 q1107 q110 q1108) rfl rfl rfl ⟨rfl, cdX0_did⟩ ⟨(Nat.le_of_ble_eq_true rfl), (Nat.le_of_ble_eq_true rfl)⟩) rfl hl.1 rfl (Nat.le_of_ble_eq_true rfl) dL_law_596 ⟨Nat.le_trans (Nat.add_le_add_left (by decide : 0 ≤ 9000) _) hrm.1, Nat.le_trans (Nat.add_le_add_left (by decide : 0 ≤ 110000) _) hrm.2⟩) ci_sm hC hT K.2.2.2.2.1 K.2.2.2.2.2.2.1 (fun vC vT H sC sT hC hT => ?_)
  have hR0 := hsm _ _ _ _ hR (sm_rf _) sT
  obtain ⟨e2, hR2⟩ := hop vT sT
  refine lv_aload_n hx hb dL_law_599 rfl (lv_at hl 2 rfl) ?_
  refine lv_aload_n hx hb dL_law_600 rfl (lv_at hl 0 rfl) ?_
  refine lv_iload_n hx hb dL_law_601 rfl (lv_at hl 3 rfl) ?_
  refine lv_iconst (v := (1 : Int32)) hx hb dL_law_602 (by decide) ?_
  refine lv_iadd hx hb dL_law_603 ?_
  refine va_sld hx hb hsx hbl hbA hC.2 hpl.2.1 dL_law_604 ?_
  refine lv_aload_n hx hb dL_law_605 rfl (lv_at hl 0 rfl) ?_
  refine lv_iload_n hx hb dL_law_606 rfl (lv_at hl 3 rfl) ?_
  refine lv_iconst (v := (2 : Int32)) hx hb dL_law_607 (by decide) ?_
  refine lv_iadd hx hb dL_law_608 ?_
  refine va_sld hx hb hsx hbl hbA hC.2 hpl.2.2.1 dL_law_609 ?_
  refine w_calli (r0 := r) (u0 := vT) (r_runV (As := [.int (xs (i + (1 : Int32)).toNatClampNeg), .int (xs (i + (2 : Int32)).toNatClampNeg)]) (rest := [.int r]) K.2.1 hT 0 tw_c0 lk_3 (mt_X3_did l G2 vT (xs (i + (1 : Int32)).toNatClampNeg) (xs (i + (2 : Int32)).toNatClampNeg) e2) (cwV 2 hts (lw_V q2151 q2152 q2153 q113 q2154) rfl rfl rfl ⟨rfl, cdX3_did⟩ ⟨(Nat.le_of_ble_eq_true rfl), (Nat.le_of_ble_eq_true rfl)⟩) rfl hl.1 rfl (Nat.le_of_ble_eq_true rfl) dL_law_610 ⟨Nat.le_trans (Nat.add_le_add_left (by decide : 0 ≤ 9000) _) hrm.1, Nat.le_trans (Nat.add_le_add_left (by decide : 0 ≤ 110000) _) hrm.2⟩) ci_sm hT hC K.2.2.2.2.2.1 (fun q h1 h2 => K.2.2.2.2.2.2.1 q h2 h1) (fun wT wC H sT2 sC2 hT hC => ?_)
  refine lv_icmp_eq (tgt := 1193) hx hb dL_law_613 (by decide) (fun _ => ?_) (fun hne => absurd rfl hne)
  refine W.widen (k := cells + 9000) (n := slots + 110000) (Nat.add_le_add_left (by decide : 0 ≤ 9000) _) (Nat.add_le_add_left (by decide : 0 ≤ 110000) _) ?_
  exact kk _ _ _ hC hT (hsm _ _ _ _ hR2 (sm_tr sC2 sC) sT2)
end LWC
def OP_first14 (RR : ST → ST → Prop) (x0 : Nat) (ks : Nat → ClassId) (σC σT : ST) : Prop := ∀ (a0 : Int32) (a1 : Int32), ∃ (r : Int32), cp_first σC a0 a1 = some r ∧ ∀ vT, sm vT σT → tw_first vT a0 a1 = some r ∧ RR σC vT
section LWC
variable {p : Program} {l : Launch} {e : Env} {s : State} {m : MethodId} {below : List Frame} {meth : Method} {c : Code} {H : Heap} {cells slots : Nat} {Q : State → Prop} {b L : Nat} {xs : Nat → Int32} {GC G2 : GT} {σC σT : ST} {ls : Array Slot} {i : Int32} {RR : ST → ST → Prop}
theorem lw_c14 (K : LC p s m c b L xs GC G2) (hlt : l.stackTraces = false) (hsm : ∀ a0 b0 a1 b1 : ST, RR a0 b0 → sm a1 a0 → sm b1 b0 → RR a1 b1) (hC : PS cp_ft GC s σC H []) (hT : PS tw_ft G2 s σT H []) (hR : RR σC σT) (hop : OP_first14 RR (GC.2.2.1 0) GC.2.1 σC σT) (hpl : pl_ L i) (hl : lv_has ls 4 [(0, .ref b), (1, .ref (GC.2.2.1 0)), (2, .ref (G2.2.2.1 0)), (3, .int i)]) (hrm : cells + 9000 ≤ room_1.cells ∧ slots + 110000 ≤ room_1.slots) (kk : NX RR p l e s m b below meth c cells slots Q GC G2 ls) : W p l e room_1 s m #[Value.ref b] below meth c H [] cells slots Q (F0 m 618 ls []) := by
  have hal := K.2.2.2.2.2.2.2
  have hx := K.1.1.1
  have hb := K.1.1.2.1
  have hown := K.1.1.2.2.2.1
  have hts := K.1.1.2.2.2.2
  have hsx := K.2.2.1
  have hbl := K.2.2.2.1
  have hbA : ¬ GC.2.2.2.1 b := fun q => absurd (K.2.2.2.2.1 b q) (Nat.not_le.mpr hbl)
  refine lv_aload_n hx hb dL_law_618 rfl (lv_at hl 1 rfl) ?_
  refine lv_aload_n hx hb dL_law_619 rfl (lv_at hl 0 rfl) ?_
  refine lv_iload_n hx hb dL_law_620 rfl (lv_at hl 3 rfl) ?_
  refine lv_iconst (v := (1 : Int32)) hx hb dL_law_621 (by decide) ?_
  refine lv_iadd hx hb dL_law_622 ?_
  refine va_sld hx hb hsx hbl hbA hC.2 hpl.2.1 dL_law_623 ?_
  refine lv_aload_n hx hb dL_law_624 rfl (lv_at hl 0 rfl) ?_
  refine lv_iload_n hx hb dL_law_625 rfl (lv_at hl 3 rfl) ?_
  refine lv_iconst (v := (2 : Int32)) hx hb dL_law_626 (by decide) ?_
  refine lv_iadd hx hb dL_law_627 ?_
  refine va_sld hx hb hsx hbl hbA hC.2 hpl.2.2.1 dL_law_628 ?_
  obtain ⟨r, e1, hop⟩ := hop (xs (i + (1 : Int32)).toNatClampNeg) (xs (i + (2 : Int32)).toNatClampNeg)
  refine w_calli (r0 := r) (u0 := σC) (r_runV (As := [.int (xs (i + (1 : Int32)).toNatClampNeg), .int (xs (i + (2 : Int32)).toNatClampNeg)]) (rest := []) K.1 hC 0 cp_c0 lk_0 (mt_X0_first l GC σC (xs (i + (1 : Int32)).toNatClampNeg) (xs (i + (2 : Int32)).toNatClampNeg) e1) (cwV 2 hts (lw_V q1109 q1110 q1111 q110 q1112) rfl rfl rfl ⟨rfl, cdX0_first⟩ ⟨(Nat.le_of_ble_eq_true rfl), (Nat.le_of_ble_eq_true rfl)⟩) rfl hl.1 rfl (Nat.le_of_ble_eq_true rfl) dL_law_629 ⟨Nat.le_trans (Nat.add_le_add_left (by decide : 0 ≤ 9000) _) hrm.1, Nat.le_trans (Nat.add_le_add_left (by decide : 0 ≤ 110000) _) hrm.2⟩) ci_sm hC hT K.2.2.2.2.1 K.2.2.2.2.2.2.1 (fun vC vT H sC sT hC hT => ?_)
  have hR0 := hsm _ _ _ _ hR (sm_rf _) sT
  obtain ⟨e2, hR2⟩ := hop vT sT
  refine lv_aload_n hx hb dL_law_632 rfl (lv_at hl 2 rfl) ?_
  refine lv_aload_n hx hb dL_law_633 rfl (lv_at hl 0 rfl) ?_
  refine lv_iload_n hx hb dL_law_634 rfl (lv_at hl 3 rfl) ?_
  refine lv_iconst (v := (1 : Int32)) hx hb dL_law_635 (by decide) ?_
  refine lv_iadd hx hb dL_law_636 ?_
  refine va_sld hx hb hsx hbl hbA hC.2 hpl.2.1 dL_law_637 ?_
  refine lv_aload_n hx hb dL_law_638 rfl (lv_at hl 0 rfl) ?_
  refine lv_iload_n hx hb dL_law_639 rfl (lv_at hl 3 rfl) ?_
  refine lv_iconst (v := (2 : Int32)) hx hb dL_law_640 (by decide) ?_
  refine lv_iadd hx hb dL_law_641 ?_
  refine va_sld hx hb hsx hbl hbA hC.2 hpl.2.2.1 dL_law_642 ?_
  refine w_calli (r0 := r) (u0 := vT) (r_runV (As := [.int (xs (i + (1 : Int32)).toNatClampNeg), .int (xs (i + (2 : Int32)).toNatClampNeg)]) (rest := [.int r]) K.2.1 hT 0 tw_c0 lk_3 (mt_X3_first l G2 vT (xs (i + (1 : Int32)).toNatClampNeg) (xs (i + (2 : Int32)).toNatClampNeg) e2) (cwV 2 hts (lw_V q2156 q2157 q2158 q113 q2159) rfl rfl rfl ⟨rfl, cdX3_first⟩ ⟨(Nat.le_of_ble_eq_true rfl), (Nat.le_of_ble_eq_true rfl)⟩) rfl hl.1 rfl (Nat.le_of_ble_eq_true rfl) dL_law_643 ⟨Nat.le_trans (Nat.add_le_add_left (by decide : 0 ≤ 9000) _) hrm.1, Nat.le_trans (Nat.add_le_add_left (by decide : 0 ≤ 110000) _) hrm.2⟩) ci_sm hT hC K.2.2.2.2.2.1 (fun q h1 h2 => K.2.2.2.2.2.2.1 q h2 h1) (fun wT wC H sT2 sC2 hT hC => ?_)
  refine lv_icmp_eq (tgt := 1193) hx hb dL_law_646 (by decide) (fun _ => ?_) (fun hne => absurd rfl hne)
  refine W.widen (k := cells + 9000) (n := slots + 110000) (Nat.add_le_add_left (by decide : 0 ≤ 9000) _) (Nat.add_le_add_left (by decide : 0 ≤ 110000) _) ?_
  exact kk _ _ _ hC hT (hsm _ _ _ _ hR2 (sm_tr sC2 sC) sT2)
end LWC
def OP_rule15 (RR : ST → ST → Prop) (x0 : Nat) (ks : Nat → ClassId) (σC σT : ST) : Prop := ∀ (a0 : Int32), ∃ (r : Int32) (uC : ST), cp_rule σC a0 = some (r, uC) ∧ ∀ vT, sm vT σT → ∃ uT : ST, tw_rule vT a0 = some (r, uT) ∧ RR uC uT
section LWC
variable {p : Program} {l : Launch} {e : Env} {s : State} {m : MethodId} {below : List Frame} {meth : Method} {c : Code} {H : Heap} {cells slots : Nat} {Q : State → Prop} {b L : Nat} {xs : Nat → Int32} {GC G2 : GT} {σC σT : ST} {ls : Array Slot} {i : Int32} {RR : ST → ST → Prop}
theorem lw_c15 (K : LC p s m c b L xs GC G2) (hlt : l.stackTraces = false) (hsm : ∀ a0 b0 a1 b1 : ST, RR a0 b0 → sm a1 a0 → sm b1 b0 → RR a1 b1) (hC : PS cp_ft GC s σC H []) (hT : PS tw_ft G2 s σT H []) (hR : RR σC σT) (hop : OP_rule15 RR (GC.2.2.1 0) GC.2.1 σC σT) (hpl : pl_ L i) (hl : lv_has ls 4 [(0, .ref b), (1, .ref (GC.2.2.1 0)), (2, .ref (G2.2.2.1 0)), (3, .int i)]) (hrm : cells + 9000 ≤ room_1.cells ∧ slots + 110000 ≤ room_1.slots) (kk : NX RR p l e s m b below meth c cells slots Q GC G2 ls) : W p l e room_1 s m #[Value.ref b] below meth c H [] cells slots Q (F0 m 651 ls []) := by
  have hal := K.2.2.2.2.2.2.2
  have hx := K.1.1.1
  have hb := K.1.1.2.1
  have hown := K.1.1.2.2.2.1
  have hts := K.1.1.2.2.2.2
  have hsx := K.2.2.1
  have hbl := K.2.2.2.1
  have hbA : ¬ GC.2.2.2.1 b := fun q => absurd (K.2.2.2.2.1 b q) (Nat.not_le.mpr hbl)
  refine lv_aload_n hx hb dL_law_651 rfl (lv_at hl 1 rfl) ?_
  refine lv_aload_n hx hb dL_law_652 rfl (lv_at hl 0 rfl) ?_
  refine lv_iload_n hx hb dL_law_653 rfl (lv_at hl 3 rfl) ?_
  refine lv_iconst (v := (1 : Int32)) hx hb dL_law_654 (by decide) ?_
  refine lv_iadd hx hb dL_law_655 ?_
  refine va_sld hx hb hsx hbl hbA hC.2 hpl.2.1 dL_law_656 ?_
  obtain ⟨r, uC, e1, hop⟩ := hop (xs (i + (1 : Int32)).toNatClampNeg)
  refine w_calli (r0 := r) (u0 := uC) (r_runV (As := [.int (xs (i + (1 : Int32)).toNatClampNeg)]) (rest := []) K.1 hC 0 cp_c0 lk_0 (mt_X0_rule l GC σC (xs (i + (1 : Int32)).toNatClampNeg) e1) (cwV 1 hts (lw_V q1113 q1114 q1115 q110 q1116) rfl rfl rfl ⟨rfl, cdX0_rule⟩ ⟨(Nat.le_of_ble_eq_true rfl), (Nat.le_of_ble_eq_true rfl)⟩) rfl hl.1 rfl (Nat.le_of_ble_eq_true rfl) dL_law_657 ⟨Nat.le_trans (Nat.add_le_add_left (by decide : 0 ≤ 9000) _) hrm.1, Nat.le_trans (Nat.add_le_add_left (by decide : 0 ≤ 110000) _) hrm.2⟩) ci_sm hC hT K.2.2.2.2.1 K.2.2.2.2.2.2.1 (fun vC vT H sC sT hC hT => ?_)
  have hR0 := hsm _ _ _ _ hR (sm_rf _) sT
  obtain ⟨uT, e2, hR2⟩ := hop vT sT
  refine lv_aload_n hx hb dL_law_660 rfl (lv_at hl 2 rfl) ?_
  refine lv_aload_n hx hb dL_law_661 rfl (lv_at hl 0 rfl) ?_
  refine lv_iload_n hx hb dL_law_662 rfl (lv_at hl 3 rfl) ?_
  refine lv_iconst (v := (1 : Int32)) hx hb dL_law_663 (by decide) ?_
  refine lv_iadd hx hb dL_law_664 ?_
  refine va_sld hx hb hsx hbl hbA hC.2 hpl.2.1 dL_law_665 ?_
  refine w_calli (r0 := r) (u0 := uT) (r_runV (As := [.int (xs (i + (1 : Int32)).toNatClampNeg)]) (rest := [.int r]) K.2.1 hT 0 tw_c0 lk_3 (mt_X3_rule l G2 vT (xs (i + (1 : Int32)).toNatClampNeg) e2) (cwV 1 hts (lw_V q2160 q2161 q2162 q113 q2163) rfl rfl rfl ⟨rfl, cdX3_rule⟩ ⟨(Nat.le_of_ble_eq_true rfl), (Nat.le_of_ble_eq_true rfl)⟩) rfl hl.1 rfl (Nat.le_of_ble_eq_true rfl) dL_law_666 ⟨Nat.le_trans (Nat.add_le_add_left (by decide : 0 ≤ 9000) _) hrm.1, Nat.le_trans (Nat.add_le_add_left (by decide : 0 ≤ 110000) _) hrm.2⟩) ci_sm hT hC K.2.2.2.2.2.1 (fun q h1 h2 => K.2.2.2.2.2.2.1 q h2 h1) (fun wT wC H sT2 sC2 hT hC => ?_)
  refine lv_icmp_eq (tgt := 1193) hx hb dL_law_669 (by decide) (fun _ => ?_) (fun hne => absurd rfl hne)
  refine W.widen (k := cells + 9000) (n := slots + 110000) (Nat.add_le_add_left (by decide : 0 ≤ 9000) _) (Nat.add_le_add_left (by decide : 0 ≤ 110000) _) ?_
  exact kk _ _ _ hC hT (hsm _ _ _ _ hR2 (sm_tr sC2 sC) sT2)
end LWC
def OP_order16 (RR : ST → ST → Prop) (x0 : Nat) (ks : Nat → ClassId) (σC σT : ST) : Prop := ∀ (a0 : Int32), ∃ (r : Int32) (uC : ST), cp_order σC a0 = some (r, uC) ∧ ∀ vT, sm vT σT → ∃ uT : ST, tw_order vT a0 = some (r, uT) ∧ RR uC uT
section LWC
variable {p : Program} {l : Launch} {e : Env} {s : State} {m : MethodId} {below : List Frame} {meth : Method} {c : Code} {H : Heap} {cells slots : Nat} {Q : State → Prop} {b L : Nat} {xs : Nat → Int32} {GC G2 : GT} {σC σT : ST} {ls : Array Slot} {i : Int32} {RR : ST → ST → Prop}
theorem lw_c16 (K : LC p s m c b L xs GC G2) (hlt : l.stackTraces = false) (hsm : ∀ a0 b0 a1 b1 : ST, RR a0 b0 → sm a1 a0 → sm b1 b0 → RR a1 b1) (hC : PS cp_ft GC s σC H []) (hT : PS tw_ft G2 s σT H []) (hR : RR σC σT) (hop : OP_order16 RR (GC.2.2.1 0) GC.2.1 σC σT) (hpl : pl_ L i) (hl : lv_has ls 4 [(0, .ref b), (1, .ref (GC.2.2.1 0)), (2, .ref (G2.2.2.1 0)), (3, .int i)]) (hrm : cells + 9000 ≤ room_1.cells ∧ slots + 110000 ≤ room_1.slots) (kk : NX RR p l e s m b below meth c cells slots Q GC G2 ls) : W p l e room_1 s m #[Value.ref b] below meth c H [] cells slots Q (F0 m 674 ls []) := by
  have hal := K.2.2.2.2.2.2.2
  have hx := K.1.1.1
  have hb := K.1.1.2.1
  have hown := K.1.1.2.2.2.1
  have hts := K.1.1.2.2.2.2
  have hsx := K.2.2.1
  have hbl := K.2.2.2.1
  have hbA : ¬ GC.2.2.2.1 b := fun q => absurd (K.2.2.2.2.1 b q) (Nat.not_le.mpr hbl)
  refine lv_aload_n hx hb dL_law_674 rfl (lv_at hl 1 rfl) ?_
  refine lv_aload_n hx hb dL_law_675 rfl (lv_at hl 0 rfl) ?_
  refine lv_iload_n hx hb dL_law_676 rfl (lv_at hl 3 rfl) ?_
  refine lv_iconst (v := (1 : Int32)) hx hb dL_law_677 (by decide) ?_
  refine lv_iadd hx hb dL_law_678 ?_
  refine va_sld hx hb hsx hbl hbA hC.2 hpl.2.1 dL_law_679 ?_
  obtain ⟨r, uC, e1, hop⟩ := hop (xs (i + (1 : Int32)).toNatClampNeg)
  refine w_calli (r0 := r) (u0 := uC) (r_runV (As := [.int (xs (i + (1 : Int32)).toNatClampNeg)]) (rest := []) K.1 hC 0 cp_c0 lk_0 (mt_X0_order l GC σC (xs (i + (1 : Int32)).toNatClampNeg) e1) (cwV 1 hts (lw_V q1125 q1126 q1127 q110 q1128) rfl rfl rfl ⟨rfl, cdX0_order⟩ ⟨(Nat.le_of_ble_eq_true rfl), (Nat.le_of_ble_eq_true rfl)⟩) rfl hl.1 rfl (Nat.le_of_ble_eq_true rfl) dL_law_680 ⟨Nat.le_trans (Nat.add_le_add_left (by decide : 0 ≤ 9000) _) hrm.1, Nat.le_trans (Nat.add_le_add_left (by decide : 0 ≤ 110000) _) hrm.2⟩) ci_sm hC hT K.2.2.2.2.1 K.2.2.2.2.2.2.1 (fun vC vT H sC sT hC hT => ?_)
  have hR0 := hsm _ _ _ _ hR (sm_rf _) sT
  obtain ⟨uT, e2, hR2⟩ := hop vT sT
  refine lv_aload_n hx hb dL_law_683 rfl (lv_at hl 2 rfl) ?_
  refine lv_aload_n hx hb dL_law_684 rfl (lv_at hl 0 rfl) ?_
  refine lv_iload_n hx hb dL_law_685 rfl (lv_at hl 3 rfl) ?_
  refine lv_iconst (v := (1 : Int32)) hx hb dL_law_686 (by decide) ?_
  refine lv_iadd hx hb dL_law_687 ?_
  refine va_sld hx hb hsx hbl hbA hC.2 hpl.2.1 dL_law_688 ?_
  refine w_calli (r0 := r) (u0 := uT) (r_runV (As := [.int (xs (i + (1 : Int32)).toNatClampNeg)]) (rest := [.int r]) K.2.1 hT 0 tw_c0 lk_3 (mt_X3_order l G2 vT (xs (i + (1 : Int32)).toNatClampNeg) e2) (cwV 1 hts (lw_V q2177 q2178 q2179 q113 q2180) rfl rfl rfl ⟨rfl, cdX3_order⟩ ⟨(Nat.le_of_ble_eq_true rfl), (Nat.le_of_ble_eq_true rfl)⟩) rfl hl.1 rfl (Nat.le_of_ble_eq_true rfl) dL_law_689 ⟨Nat.le_trans (Nat.add_le_add_left (by decide : 0 ≤ 9000) _) hrm.1, Nat.le_trans (Nat.add_le_add_left (by decide : 0 ≤ 110000) _) hrm.2⟩) ci_sm hT hC K.2.2.2.2.2.1 (fun q h1 h2 => K.2.2.2.2.2.2.1 q h2 h1) (fun wT wC H sT2 sC2 hT hC => ?_)
  refine lv_icmp_eq (tgt := 1193) hx hb dL_law_692 (by decide) (fun _ => ?_) (fun hne => absurd rfl hne)
  refine W.widen (k := cells + 9000) (n := slots + 110000) (Nat.add_le_add_left (by decide : 0 ≤ 9000) _) (Nat.add_le_add_left (by decide : 0 ≤ 110000) _) ?_
  exact kk _ _ _ hC hT (hsm _ _ _ _ hR2 (sm_tr sC2 sC) sT2)
end LWC
def OP_times17 (RR : ST → ST → Prop) (x0 : Nat) (ks : Nat → ClassId) (σC σT : ST) : Prop := ∀ (a0 : Int32), ∃ (r : Int32) (uC : ST), cp_times σC a0 = some (r, uC) ∧ ∀ vT, sm vT σT → ∃ uT : ST, tw_times vT a0 = some (r, uT) ∧ RR uC uT
section LWC
variable {p : Program} {l : Launch} {e : Env} {s : State} {m : MethodId} {below : List Frame} {meth : Method} {c : Code} {H : Heap} {cells slots : Nat} {Q : State → Prop} {b L : Nat} {xs : Nat → Int32} {GC G2 : GT} {σC σT : ST} {ls : Array Slot} {i : Int32} {RR : ST → ST → Prop}
theorem lw_c17 (K : LC p s m c b L xs GC G2) (hlt : l.stackTraces = false) (hsm : ∀ a0 b0 a1 b1 : ST, RR a0 b0 → sm a1 a0 → sm b1 b0 → RR a1 b1) (hC : PS cp_ft GC s σC H []) (hT : PS tw_ft G2 s σT H []) (hR : RR σC σT) (hop : OP_times17 RR (GC.2.2.1 0) GC.2.1 σC σT) (hpl : pl_ L i) (hl : lv_has ls 4 [(0, .ref b), (1, .ref (GC.2.2.1 0)), (2, .ref (G2.2.2.1 0)), (3, .int i)]) (hrm : cells + 9000 ≤ room_1.cells ∧ slots + 110000 ≤ room_1.slots) (kk : NX RR p l e s m b below meth c cells slots Q GC G2 ls) : W p l e room_1 s m #[Value.ref b] below meth c H [] cells slots Q (F0 m 697 ls []) := by
  have hal := K.2.2.2.2.2.2.2
  have hx := K.1.1.1
  have hb := K.1.1.2.1
  have hown := K.1.1.2.2.2.1
  have hts := K.1.1.2.2.2.2
  have hsx := K.2.2.1
  have hbl := K.2.2.2.1
  have hbA : ¬ GC.2.2.2.1 b := fun q => absurd (K.2.2.2.2.1 b q) (Nat.not_le.mpr hbl)
  refine lv_aload_n hx hb dL_law_697 rfl (lv_at hl 1 rfl) ?_
  refine lv_aload_n hx hb dL_law_698 rfl (lv_at hl 0 rfl) ?_
  refine lv_iload_n hx hb dL_law_699 rfl (lv_at hl 3 rfl) ?_
  refine lv_iconst (v := (1 : Int32)) hx hb dL_law_700 (by decide) ?_
  refine lv_iadd hx hb dL_law_701 ?_
  refine va_sld hx hb hsx hbl hbA hC.2 hpl.2.1 dL_law_702 ?_
  obtain ⟨r, uC, e1, hop⟩ := hop (xs (i + (1 : Int32)).toNatClampNeg)
  refine w_calli (r0 := r) (u0 := uC) (r_runV (As := [.int (xs (i + (1 : Int32)).toNatClampNeg)]) (rest := []) K.1 hC 0 cp_c0 lk_0 (mt_X0_times l GC σC (xs (i + (1 : Int32)).toNatClampNeg) e1) (cwV 1 hts (lw_V q1133 q1134 q1135 q110 q1136) rfl rfl rfl ⟨rfl, cdX0_times⟩ ⟨(Nat.le_of_ble_eq_true rfl), (Nat.le_of_ble_eq_true rfl)⟩) rfl hl.1 rfl (Nat.le_of_ble_eq_true rfl) dL_law_703 ⟨Nat.le_trans (Nat.add_le_add_left (by decide : 0 ≤ 9000) _) hrm.1, Nat.le_trans (Nat.add_le_add_left (by decide : 0 ≤ 110000) _) hrm.2⟩) ci_sm hC hT K.2.2.2.2.1 K.2.2.2.2.2.2.1 (fun vC vT H sC sT hC hT => ?_)
  have hR0 := hsm _ _ _ _ hR (sm_rf _) sT
  obtain ⟨uT, e2, hR2⟩ := hop vT sT
  refine lv_aload_n hx hb dL_law_706 rfl (lv_at hl 2 rfl) ?_
  refine lv_aload_n hx hb dL_law_707 rfl (lv_at hl 0 rfl) ?_
  refine lv_iload_n hx hb dL_law_708 rfl (lv_at hl 3 rfl) ?_
  refine lv_iconst (v := (1 : Int32)) hx hb dL_law_709 (by decide) ?_
  refine lv_iadd hx hb dL_law_710 ?_
  refine va_sld hx hb hsx hbl hbA hC.2 hpl.2.1 dL_law_711 ?_
  refine w_calli (r0 := r) (u0 := uT) (r_runV (As := [.int (xs (i + (1 : Int32)).toNatClampNeg)]) (rest := [.int r]) K.2.1 hT 0 tw_c0 lk_3 (mt_X3_times l G2 vT (xs (i + (1 : Int32)).toNatClampNeg) e2) (cwV 1 hts (lw_V q2185 q2186 q2187 q113 q2188) rfl rfl rfl ⟨rfl, cdX3_times⟩ ⟨(Nat.le_of_ble_eq_true rfl), (Nat.le_of_ble_eq_true rfl)⟩) rfl hl.1 rfl (Nat.le_of_ble_eq_true rfl) dL_law_712 ⟨Nat.le_trans (Nat.add_le_add_left (by decide : 0 ≤ 9000) _) hrm.1, Nat.le_trans (Nat.add_le_add_left (by decide : 0 ≤ 110000) _) hrm.2⟩) ci_sm hT hC K.2.2.2.2.2.1 (fun q h1 h2 => K.2.2.2.2.2.2.1 q h2 h1) (fun wT wC H sT2 sC2 hT hC => ?_)
  refine lv_icmp_eq (tgt := 1193) hx hb dL_law_715 (by decide) (fun _ => ?_) (fun hne => absurd rfl hne)
  refine W.widen (k := cells + 9000) (n := slots + 110000) (Nat.add_le_add_left (by decide : 0 ≤ 9000) _) (Nat.add_le_add_left (by decide : 0 ≤ 110000) _) ?_
  exact kk _ _ _ hC hT (hsm _ _ _ _ hR2 (sm_tr sC2 sC) sT2)
end LWC
def OP_film18 (RR : ST → ST → Prop) (x0 : Nat) (ks : Nat → ClassId) (σC σT : ST) : Prop := ∀ (a0 : Int32), ∃ (r : Int32) (uC : ST), cp_film ks σC a0 = some (r, uC) ∧ ∀ vT, sm vT σT → ∃ uT : ST, tw_film vT a0 = some (r, uT) ∧ RR uC uT
section LWC
variable {p : Program} {l : Launch} {e : Env} {s : State} {m : MethodId} {below : List Frame} {meth : Method} {c : Code} {H : Heap} {cells slots : Nat} {Q : State → Prop} {b L : Nat} {xs : Nat → Int32} {GC G2 : GT} {σC σT : ST} {ls : Array Slot} {i : Int32} {RR : ST → ST → Prop}
theorem lw_c18 (K : LC p s m c b L xs GC G2) (hlt : l.stackTraces = false) (hsm : ∀ a0 b0 a1 b1 : ST, RR a0 b0 → sm a1 a0 → sm b1 b0 → RR a1 b1) (hC : PS cp_ft GC s σC H []) (hT : PS tw_ft G2 s σT H []) (hR : RR σC σT) (hop : OP_film18 RR (GC.2.2.1 0) GC.2.1 σC σT) (hpl : pl_ L i) (hl : lv_has ls 4 [(0, .ref b), (1, .ref (GC.2.2.1 0)), (2, .ref (G2.2.2.1 0)), (3, .int i)]) (hrm : cells + 9000 ≤ room_1.cells ∧ slots + 110000 ≤ room_1.slots) (kk : NX RR p l e s m b below meth c cells slots Q GC G2 ls) : W p l e room_1 s m #[Value.ref b] below meth c H [] cells slots Q (F0 m 720 ls []) := by
  have hal := K.2.2.2.2.2.2.2
  have hx := K.1.1.1
  have hb := K.1.1.2.1
  have hown := K.1.1.2.2.2.1
  have hts := K.1.1.2.2.2.2
  have hsx := K.2.2.1
  have hbl := K.2.2.2.1
  have hbA : ¬ GC.2.2.2.1 b := fun q => absurd (K.2.2.2.2.1 b q) (Nat.not_le.mpr hbl)
  refine lv_aload_n hx hb dL_law_720 rfl (lv_at hl 1 rfl) ?_
  refine lv_aload_n hx hb dL_law_721 rfl (lv_at hl 0 rfl) ?_
  refine lv_iload_n hx hb dL_law_722 rfl (lv_at hl 3 rfl) ?_
  refine lv_iconst (v := (1 : Int32)) hx hb dL_law_723 (by decide) ?_
  refine lv_iadd hx hb dL_law_724 ?_
  refine va_sld hx hb hsx hbl hbA hC.2 hpl.2.1 dL_law_725 ?_
  obtain ⟨r, uC, e1, hop⟩ := hop (xs (i + (1 : Int32)).toNatClampNeg)
  refine w_calli (r0 := r) (u0 := uC) (w_runVW (As := [.int (xs (i + (1 : Int32)).toNatClampNeg)]) (rest := []) K.1 hC 0 cp_c0 lk_0 (mt_X0_film l GC hal hlt σC (xs (i + (1 : Int32)).toNatClampNeg) e1) q1137 q1138 q1139 q110 q1140 rfl rfl cdX0_film ⟨(Nat.le_of_ble_eq_true rfl), (Nat.le_of_ble_eq_true rfl)⟩ rfl hl.1 rfl (Nat.le_of_ble_eq_true rfl) dL_law_726 ⟨Nat.le_trans (Nat.add_le_add_left (by decide : 3 ≤ 9000) _) hrm.1, Nat.le_trans (Nat.add_le_add_left (by decide : 1210 ≤ 110000) _) hrm.2⟩) xi_sm hC hT K.2.2.2.2.1 K.2.2.2.2.2.2.1 (fun vC vT H sC sT hC hT => ?_)
  have hR0 := hsm _ _ _ _ hR (sm_rf _) sT
  obtain ⟨uT, e2, hR2⟩ := hop vT sT
  refine lv_aload_n hx hb dL_law_729 rfl (lv_at hl 2 rfl) ?_
  refine lv_aload_n hx hb dL_law_730 rfl (lv_at hl 0 rfl) ?_
  refine lv_iload_n hx hb dL_law_731 rfl (lv_at hl 3 rfl) ?_
  refine lv_iconst (v := (1 : Int32)) hx hb dL_law_732 (by decide) ?_
  refine lv_iadd hx hb dL_law_733 ?_
  refine va_sld hx hb hsx hbl hbA hC.2 hpl.2.1 dL_law_734 ?_
  refine w_calli (r0 := r) (u0 := uT) (r_runV (As := [.int (xs (i + (1 : Int32)).toNatClampNeg)]) (rest := [.int r]) K.2.1 hT 0 tw_c0 lk_3 (mt_X3_film l G2 vT (xs (i + (1 : Int32)).toNatClampNeg) e2) (cwV 1 hts (lw_V q2189 q2190 q2191 q113 q2192) rfl rfl rfl ⟨rfl, cdX3_film⟩ ⟨(Nat.le_of_ble_eq_true rfl), (Nat.le_of_ble_eq_true rfl)⟩) rfl hl.1 rfl (Nat.le_of_ble_eq_true rfl) dL_law_735 ⟨Nat.le_trans (Nat.add_le_add_left (by decide : 3 ≤ 9000) _) hrm.1, Nat.le_trans (Nat.add_le_add_left (by decide : 1210 ≤ 110000) _) hrm.2⟩) ci_sm hT hC K.2.2.2.2.2.1 (fun q h1 h2 => K.2.2.2.2.2.2.1 q h2 h1) (fun wT wC H sT2 sC2 hT hC => ?_)
  refine lv_icmp_eq (tgt := 1193) hx hb dL_law_738 (by decide) (fun _ => ?_) (fun hne => absurd rfl hne)
  refine W.widen (k := cells + 9000) (n := slots + 110000) (Nat.add_le_add_left (by decide : 3 ≤ 9000) _) (Nat.add_le_add_left (by decide : 1210 ≤ 110000) _) ?_
  exact kk _ _ _ hC hT (hsm _ _ _ _ hR2 (sm_tr sC2 sC) sT2)
end LWC
def OP_wish19 (RR : ST → ST → Prop) (x0 : Nat) (ks : Nat → ClassId) (σC σT : ST) : Prop := ∀ (a0 : Int32) (a1 : Int32), ∃ (r : Int32) (uC : ST), cp_wish σC a0 a1 = some (r, uC) ∧ ∀ vT, sm vT σT → ∃ uT : ST, tw_wish vT a0 a1 = some (r, uT) ∧ RR uC uT
section LWC
variable {p : Program} {l : Launch} {e : Env} {s : State} {m : MethodId} {below : List Frame} {meth : Method} {c : Code} {H : Heap} {cells slots : Nat} {Q : State → Prop} {b L : Nat} {xs : Nat → Int32} {GC G2 : GT} {σC σT : ST} {ls : Array Slot} {i : Int32} {RR : ST → ST → Prop}
theorem lw_c19 (K : LC p s m c b L xs GC G2) (hlt : l.stackTraces = false) (hsm : ∀ a0 b0 a1 b1 : ST, RR a0 b0 → sm a1 a0 → sm b1 b0 → RR a1 b1) (hC : PS cp_ft GC s σC H []) (hT : PS tw_ft G2 s σT H []) (hR : RR σC σT) (hop : OP_wish19 RR (GC.2.2.1 0) GC.2.1 σC σT) (hpl : pl_ L i) (hl : lv_has ls 4 [(0, .ref b), (1, .ref (GC.2.2.1 0)), (2, .ref (G2.2.2.1 0)), (3, .int i)]) (hrm : cells + 9000 ≤ room_1.cells ∧ slots + 110000 ≤ room_1.slots) (kk : NX RR p l e s m b below meth c cells slots Q GC G2 ls) : W p l e room_1 s m #[Value.ref b] below meth c H [] cells slots Q (F0 m 743 ls []) := by
  have hal := K.2.2.2.2.2.2.2
  have hx := K.1.1.1
  have hb := K.1.1.2.1
  have hown := K.1.1.2.2.2.1
  have hts := K.1.1.2.2.2.2
  have hsx := K.2.2.1
  have hbl := K.2.2.2.1
  have hbA : ¬ GC.2.2.2.1 b := fun q => absurd (K.2.2.2.2.1 b q) (Nat.not_le.mpr hbl)
  refine lv_aload_n hx hb dL_law_743 rfl (lv_at hl 1 rfl) ?_
  refine lv_aload_n hx hb dL_law_744 rfl (lv_at hl 0 rfl) ?_
  refine lv_iload_n hx hb dL_law_745 rfl (lv_at hl 3 rfl) ?_
  refine lv_iconst (v := (1 : Int32)) hx hb dL_law_746 (by decide) ?_
  refine lv_iadd hx hb dL_law_747 ?_
  refine va_sld hx hb hsx hbl hbA hC.2 hpl.2.1 dL_law_748 ?_
  refine lv_aload_n hx hb dL_law_749 rfl (lv_at hl 0 rfl) ?_
  refine lv_iload_n hx hb dL_law_750 rfl (lv_at hl 3 rfl) ?_
  refine lv_iconst (v := (2 : Int32)) hx hb dL_law_751 (by decide) ?_
  refine lv_iadd hx hb dL_law_752 ?_
  refine va_sld hx hb hsx hbl hbA hC.2 hpl.2.2.1 dL_law_753 ?_
  obtain ⟨r, uC, e1, hop⟩ := hop (xs (i + (1 : Int32)).toNatClampNeg) (xs (i + (2 : Int32)).toNatClampNeg)
  refine w_calli (r0 := r) (u0 := uC) (r_runV (As := [.int (xs (i + (1 : Int32)).toNatClampNeg), .int (xs (i + (2 : Int32)).toNatClampNeg)]) (rest := []) K.1 hC 0 cp_c0 lk_0 (mt_X0_wish l GC σC (xs (i + (1 : Int32)).toNatClampNeg) (xs (i + (2 : Int32)).toNatClampNeg) e1) (cwV 2 hts (lw_V q1154 q1155 q1156 q110 q1157) rfl rfl rfl ⟨rfl, cdX0_wish⟩ ⟨(Nat.le_of_ble_eq_true rfl), (Nat.le_of_ble_eq_true rfl)⟩) rfl hl.1 rfl (Nat.le_of_ble_eq_true rfl) dL_law_754 ⟨Nat.le_trans (Nat.add_le_add_left (by decide : 0 ≤ 9000) _) hrm.1, Nat.le_trans (Nat.add_le_add_left (by decide : 0 ≤ 110000) _) hrm.2⟩) ci_sm hC hT K.2.2.2.2.1 K.2.2.2.2.2.2.1 (fun vC vT H sC sT hC hT => ?_)
  have hR0 := hsm _ _ _ _ hR (sm_rf _) sT
  obtain ⟨uT, e2, hR2⟩ := hop vT sT
  refine lv_aload_n hx hb dL_law_757 rfl (lv_at hl 2 rfl) ?_
  refine lv_aload_n hx hb dL_law_758 rfl (lv_at hl 0 rfl) ?_
  refine lv_iload_n hx hb dL_law_759 rfl (lv_at hl 3 rfl) ?_
  refine lv_iconst (v := (1 : Int32)) hx hb dL_law_760 (by decide) ?_
  refine lv_iadd hx hb dL_law_761 ?_
  refine va_sld hx hb hsx hbl hbA hC.2 hpl.2.1 dL_law_762 ?_
  refine lv_aload_n hx hb dL_law_763 rfl (lv_at hl 0 rfl) ?_
  refine lv_iload_n hx hb dL_law_764 rfl (lv_at hl 3 rfl) ?_
  refine lv_iconst (v := (2 : Int32)) hx hb dL_law_765 (by decide) ?_
  refine lv_iadd hx hb dL_law_766 ?_
  refine va_sld hx hb hsx hbl hbA hC.2 hpl.2.2.1 dL_law_767 ?_
  refine w_calli (r0 := r) (u0 := uT) (r_runV (As := [.int (xs (i + (1 : Int32)).toNatClampNeg), .int (xs (i + (2 : Int32)).toNatClampNeg)]) (rest := [.int r]) K.2.1 hT 0 tw_c0 lk_3 (mt_X3_wish l G2 vT (xs (i + (1 : Int32)).toNatClampNeg) (xs (i + (2 : Int32)).toNatClampNeg) e2) (cwV 2 hts (lw_V q2193 q2194 q2195 q113 q2196) rfl rfl rfl ⟨rfl, cdX3_wish⟩ ⟨(Nat.le_of_ble_eq_true rfl), (Nat.le_of_ble_eq_true rfl)⟩) rfl hl.1 rfl (Nat.le_of_ble_eq_true rfl) dL_law_768 ⟨Nat.le_trans (Nat.add_le_add_left (by decide : 0 ≤ 9000) _) hrm.1, Nat.le_trans (Nat.add_le_add_left (by decide : 0 ≤ 110000) _) hrm.2⟩) ci_sm hT hC K.2.2.2.2.2.1 (fun q h1 h2 => K.2.2.2.2.2.2.1 q h2 h1) (fun wT wC H sT2 sC2 hT hC => ?_)
  refine lv_icmp_eq (tgt := 1193) hx hb dL_law_771 (by decide) (fun _ => ?_) (fun hne => absurd rfl hne)
  refine W.widen (k := cells + 9000) (n := slots + 110000) (Nat.add_le_add_left (by decide : 0 ≤ 9000) _) (Nat.add_le_add_left (by decide : 0 ≤ 110000) _) ?_
  exact kk _ _ _ hC hT (hsm _ _ _ _ hR2 (sm_tr sC2 sC) sT2)
end LWC
def OP_undo20 (RR : ST → ST → Prop) (x0 : Nat) (ks : Nat → ClassId) (σC σT : ST) : Prop := ∃ (r : Int32) (uC : ST), cp_undo σC = some (r, uC) ∧ ∀ vT, sm vT σT → ∃ uT : ST, tw_undo vT = some (r, uT) ∧ RR uC uT
section LWC
variable {p : Program} {l : Launch} {e : Env} {s : State} {m : MethodId} {below : List Frame} {meth : Method} {c : Code} {H : Heap} {cells slots : Nat} {Q : State → Prop} {b L : Nat} {xs : Nat → Int32} {GC G2 : GT} {σC σT : ST} {ls : Array Slot} {i : Int32} {RR : ST → ST → Prop}
theorem lw_c20 (K : LC p s m c b L xs GC G2) (hlt : l.stackTraces = false) (hsm : ∀ a0 b0 a1 b1 : ST, RR a0 b0 → sm a1 a0 → sm b1 b0 → RR a1 b1) (hC : PS cp_ft GC s σC H []) (hT : PS tw_ft G2 s σT H []) (hR : RR σC σT) (hop : OP_undo20 RR (GC.2.2.1 0) GC.2.1 σC σT) (hpl : pl_ L i) (hl : lv_has ls 4 [(0, .ref b), (1, .ref (GC.2.2.1 0)), (2, .ref (G2.2.2.1 0)), (3, .int i)]) (hrm : cells + 9000 ≤ room_1.cells ∧ slots + 110000 ≤ room_1.slots) (kk : NX RR p l e s m b below meth c cells slots Q GC G2 ls) : W p l e room_1 s m #[Value.ref b] below meth c H [] cells slots Q (F0 m 776 ls []) := by
  have hal := K.2.2.2.2.2.2.2
  have hx := K.1.1.1
  have hb := K.1.1.2.1
  have hown := K.1.1.2.2.2.1
  have hts := K.1.1.2.2.2.2
  have hsx := K.2.2.1
  have hbl := K.2.2.2.1
  have hbA : ¬ GC.2.2.2.1 b := fun q => absurd (K.2.2.2.2.1 b q) (Nat.not_le.mpr hbl)
  refine lv_aload_n hx hb dL_law_776 rfl (lv_at hl 1 rfl) ?_
  obtain ⟨r, uC, e1, hop⟩ := hop
  refine w_calli (r0 := r) (u0 := uC) (r_runV (As := []) (rest := []) K.1 hC 0 cp_c0 lk_0 (mt_X0_undo l GC σC e1) (cwV 0 hts (lw_V q633 q634 q635 q110 q636) rfl rfl rfl ⟨rfl, cdX0_undo⟩ ⟨(Nat.le_of_ble_eq_true rfl), (Nat.le_of_ble_eq_true rfl)⟩) rfl hl.1 rfl (Nat.le_of_ble_eq_true rfl) dL_law_777 ⟨Nat.le_trans (Nat.add_le_add_left (by decide : 0 ≤ 9000) _) hrm.1, Nat.le_trans (Nat.add_le_add_left (by decide : 0 ≤ 110000) _) hrm.2⟩) ci_sm hC hT K.2.2.2.2.1 K.2.2.2.2.2.2.1 (fun vC vT H sC sT hC hT => ?_)
  have hR0 := hsm _ _ _ _ hR (sm_rf _) sT
  obtain ⟨uT, e2, hR2⟩ := hop vT sT
  refine lv_aload_n hx hb dL_law_780 rfl (lv_at hl 2 rfl) ?_
  refine w_calli (r0 := r) (u0 := uT) (r_runV (As := []) (rest := [.int r]) K.2.1 hT 0 tw_c0 lk_3 (mt_X3_undo l G2 vT e2) (cwV 0 hts (lw_V q1867 q1868 q1869 q113 q1870) rfl rfl rfl ⟨rfl, cdX3_undo⟩ ⟨(Nat.le_of_ble_eq_true rfl), (Nat.le_of_ble_eq_true rfl)⟩) rfl hl.1 rfl (Nat.le_of_ble_eq_true rfl) dL_law_781 ⟨Nat.le_trans (Nat.add_le_add_left (by decide : 0 ≤ 9000) _) hrm.1, Nat.le_trans (Nat.add_le_add_left (by decide : 0 ≤ 110000) _) hrm.2⟩) ci_sm hT hC K.2.2.2.2.2.1 (fun q h1 h2 => K.2.2.2.2.2.2.1 q h2 h1) (fun wT wC H sT2 sC2 hT hC => ?_)
  refine lv_icmp_eq (tgt := 1193) hx hb dL_law_784 (by decide) (fun _ => ?_) (fun hne => absurd rfl hne)
  refine W.widen (k := cells + 9000) (n := slots + 110000) (Nat.add_le_add_left (by decide : 0 ≤ 9000) _) (Nat.add_le_add_left (by decide : 0 ≤ 110000) _) ?_
  exact kk _ _ _ hC hT (hsm _ _ _ _ hR2 (sm_tr sC2 sC) sT2)
end LWC
def OP_redo21 (RR : ST → ST → Prop) (x0 : Nat) (ks : Nat → ClassId) (σC σT : ST) : Prop := ∃ (r : Int32) (uC : ST), cp_redo σC = some (r, uC) ∧ ∀ vT, sm vT σT → ∃ uT : ST, tw_redo vT = some (r, uT) ∧ RR uC uT
section LWC
variable {p : Program} {l : Launch} {e : Env} {s : State} {m : MethodId} {below : List Frame} {meth : Method} {c : Code} {H : Heap} {cells slots : Nat} {Q : State → Prop} {b L : Nat} {xs : Nat → Int32} {GC G2 : GT} {σC σT : ST} {ls : Array Slot} {i : Int32} {RR : ST → ST → Prop}
theorem lw_c21 (K : LC p s m c b L xs GC G2) (hlt : l.stackTraces = false) (hsm : ∀ a0 b0 a1 b1 : ST, RR a0 b0 → sm a1 a0 → sm b1 b0 → RR a1 b1) (hC : PS cp_ft GC s σC H []) (hT : PS tw_ft G2 s σT H []) (hR : RR σC σT) (hop : OP_redo21 RR (GC.2.2.1 0) GC.2.1 σC σT) (hpl : pl_ L i) (hl : lv_has ls 4 [(0, .ref b), (1, .ref (GC.2.2.1 0)), (2, .ref (G2.2.2.1 0)), (3, .int i)]) (hrm : cells + 9000 ≤ room_1.cells ∧ slots + 110000 ≤ room_1.slots) (kk : NX RR p l e s m b below meth c cells slots Q GC G2 ls) : W p l e room_1 s m #[Value.ref b] below meth c H [] cells slots Q (F0 m 789 ls []) := by
  have hal := K.2.2.2.2.2.2.2
  have hx := K.1.1.1
  have hb := K.1.1.2.1
  have hown := K.1.1.2.2.2.1
  have hts := K.1.1.2.2.2.2
  have hsx := K.2.2.1
  have hbl := K.2.2.2.1
  have hbA : ¬ GC.2.2.2.1 b := fun q => absurd (K.2.2.2.2.1 b q) (Nat.not_le.mpr hbl)
  refine lv_aload_n hx hb dL_law_789 rfl (lv_at hl 1 rfl) ?_
  obtain ⟨r, uC, e1, hop⟩ := hop
  refine w_calli (r0 := r) (u0 := uC) (r_runV (As := []) (rest := []) K.1 hC 0 cp_c0 lk_0 (mt_X0_redo l GC σC e1) (cwV 0 hts (lw_V q641 q642 q643 q110 q644) rfl rfl rfl ⟨rfl, cdX0_redo⟩ ⟨(Nat.le_of_ble_eq_true rfl), (Nat.le_of_ble_eq_true rfl)⟩) rfl hl.1 rfl (Nat.le_of_ble_eq_true rfl) dL_law_790 ⟨Nat.le_trans (Nat.add_le_add_left (by decide : 0 ≤ 9000) _) hrm.1, Nat.le_trans (Nat.add_le_add_left (by decide : 0 ≤ 110000) _) hrm.2⟩) ci_sm hC hT K.2.2.2.2.1 K.2.2.2.2.2.2.1 (fun vC vT H sC sT hC hT => ?_)
  have hR0 := hsm _ _ _ _ hR (sm_rf _) sT
  obtain ⟨uT, e2, hR2⟩ := hop vT sT
  refine lv_aload_n hx hb dL_law_793 rfl (lv_at hl 2 rfl) ?_
  refine w_calli (r0 := r) (u0 := uT) (r_runV (As := []) (rest := [.int r]) K.2.1 hT 0 tw_c0 lk_3 (mt_X3_redo l G2 vT e2) (cwV 0 hts (lw_V q1871 q1872 q1873 q113 q1874) rfl rfl rfl ⟨rfl, cdX3_redo⟩ ⟨(Nat.le_of_ble_eq_true rfl), (Nat.le_of_ble_eq_true rfl)⟩) rfl hl.1 rfl (Nat.le_of_ble_eq_true rfl) dL_law_794 ⟨Nat.le_trans (Nat.add_le_add_left (by decide : 0 ≤ 9000) _) hrm.1, Nat.le_trans (Nat.add_le_add_left (by decide : 0 ≤ 110000) _) hrm.2⟩) ci_sm hT hC K.2.2.2.2.2.1 (fun q h1 h2 => K.2.2.2.2.2.2.1 q h2 h1) (fun wT wC H sT2 sC2 hT hC => ?_)
  refine lv_icmp_eq (tgt := 1193) hx hb dL_law_797 (by decide) (fun _ => ?_) (fun hne => absurd rfl hne)
  refine W.widen (k := cells + 9000) (n := slots + 110000) (Nat.add_le_add_left (by decide : 0 ≤ 9000) _) (Nat.add_le_add_left (by decide : 0 ≤ 110000) _) ?_
  exact kk _ _ _ hC hT (hsm _ _ _ _ hR2 (sm_tr sC2 sC) sT2)
end LWC
def OP_body22 (RR : ST → ST → Prop) (x0 : Nat) (ks : Nat → ClassId) (σC σT : ST) : Prop := ∀ (a0 : Int32), ∃ (r : Int32) (uC : ST), cp_body x0 σC a0 = some (r, uC) ∧ ∀ vT, sm vT σT → ∃ uT : ST, tw_body vT a0 = some (r, uT) ∧ RR uC uT
section LWC
variable {p : Program} {l : Launch} {e : Env} {s : State} {m : MethodId} {below : List Frame} {meth : Method} {c : Code} {H : Heap} {cells slots : Nat} {Q : State → Prop} {b L : Nat} {xs : Nat → Int32} {GC G2 : GT} {σC σT : ST} {ls : Array Slot} {i : Int32} {RR : ST → ST → Prop}
theorem lw_c22 (K : LC p s m c b L xs GC G2) (hlt : l.stackTraces = false) (hsm : ∀ a0 b0 a1 b1 : ST, RR a0 b0 → sm a1 a0 → sm b1 b0 → RR a1 b1) (hC : PS cp_ft GC s σC H []) (hT : PS tw_ft G2 s σT H []) (hR : RR σC σT) (hop : OP_body22 RR (GC.2.2.1 0) GC.2.1 σC σT) (hpl : pl_ L i) (hl : lv_has ls 4 [(0, .ref b), (1, .ref (GC.2.2.1 0)), (2, .ref (G2.2.2.1 0)), (3, .int i)]) (hrm : cells + 9000 ≤ room_1.cells ∧ slots + 110000 ≤ room_1.slots) (kk : NX RR p l e s m b below meth c cells slots Q GC G2 ls) : W p l e room_1 s m #[Value.ref b] below meth c H [] cells slots Q (F0 m 802 ls []) := by
  have hal := K.2.2.2.2.2.2.2
  have hx := K.1.1.1
  have hb := K.1.1.2.1
  have hown := K.1.1.2.2.2.1
  have hts := K.1.1.2.2.2.2
  have hsx := K.2.2.1
  have hbl := K.2.2.2.1
  have hbA : ¬ GC.2.2.2.1 b := fun q => absurd (K.2.2.2.2.1 b q) (Nat.not_le.mpr hbl)
  refine lv_aload_n hx hb dL_law_802 rfl (lv_at hl 1 rfl) ?_
  refine lv_aload_n hx hb dL_law_803 rfl (lv_at hl 0 rfl) ?_
  refine lv_iload_n hx hb dL_law_804 rfl (lv_at hl 3 rfl) ?_
  refine lv_iconst (v := (1 : Int32)) hx hb dL_law_805 (by decide) ?_
  refine lv_iadd hx hb dL_law_806 ?_
  refine va_sld hx hb hsx hbl hbA hC.2 hpl.2.1 dL_law_807 ?_
  obtain ⟨r, uC, e1, hop⟩ := hop (xs (i + (1 : Int32)).toNatClampNeg)
  refine w_calli (r0 := r) (u0 := uC) (r_runV (As := [.int (xs (i + (1 : Int32)).toNatClampNeg)]) (rest := []) K.1 hC 0 cp_c0 lk_0 (mt_X0_body l GC hal σC (xs (i + (1 : Int32)).toNatClampNeg) e1) (cwV 1 hts (lw_V q1160 q1161 q1162 q110 q1163) rfl rfl rfl ⟨rfl, cdX0_body⟩ ⟨(Nat.le_of_ble_eq_true rfl), (Nat.le_of_ble_eq_true rfl)⟩) rfl hl.1 rfl (Nat.le_of_ble_eq_true rfl) dL_law_808 ⟨Nat.le_trans (Nat.add_le_add_left (by decide : 1 ≤ 9000) _) hrm.1, Nat.le_trans (Nat.add_le_add_left (by decide : 5 ≤ 110000) _) hrm.2⟩) ci_sm hC hT K.2.2.2.2.1 K.2.2.2.2.2.2.1 (fun vC vT H sC sT hC hT => ?_)
  have hR0 := hsm _ _ _ _ hR (sm_rf _) sT
  obtain ⟨uT, e2, hR2⟩ := hop vT sT
  refine lv_aload_n hx hb dL_law_811 rfl (lv_at hl 2 rfl) ?_
  refine lv_aload_n hx hb dL_law_812 rfl (lv_at hl 0 rfl) ?_
  refine lv_iload_n hx hb dL_law_813 rfl (lv_at hl 3 rfl) ?_
  refine lv_iconst (v := (1 : Int32)) hx hb dL_law_814 (by decide) ?_
  refine lv_iadd hx hb dL_law_815 ?_
  refine va_sld hx hb hsx hbl hbA hC.2 hpl.2.1 dL_law_816 ?_
  refine w_calli (r0 := r) (u0 := uT) (r_runV (As := [.int (xs (i + (1 : Int32)).toNatClampNeg)]) (rest := [.int r]) K.2.1 hT 0 tw_c0 lk_3 (mt_X3_body l G2 vT (xs (i + (1 : Int32)).toNatClampNeg) e2) (cwV 1 hts (lw_V q2197 q2198 q2199 q113 q2200) rfl rfl rfl ⟨rfl, cdX3_body⟩ ⟨(Nat.le_of_ble_eq_true rfl), (Nat.le_of_ble_eq_true rfl)⟩) rfl hl.1 rfl (Nat.le_of_ble_eq_true rfl) dL_law_817 ⟨Nat.le_trans (Nat.add_le_add_left (by decide : 1 ≤ 9000) _) hrm.1, Nat.le_trans (Nat.add_le_add_left (by decide : 5 ≤ 110000) _) hrm.2⟩) ci_sm hT hC K.2.2.2.2.2.1 (fun q h1 h2 => K.2.2.2.2.2.2.1 q h2 h1) (fun wT wC H sT2 sC2 hT hC => ?_)
  refine lv_icmp_eq (tgt := 1193) hx hb dL_law_820 (by decide) (fun _ => ?_) (fun hne => absurd rfl hne)
  refine W.widen (k := cells + 9000) (n := slots + 110000) (Nat.add_le_add_left (by decide : 1 ≤ 9000) _) (Nat.add_le_add_left (by decide : 5 ≤ 110000) _) ?_
  exact kk _ _ _ hC hT (hsm _ _ _ _ hR2 (sm_tr sC2 sC) sT2)
end LWC
def OP_act23 (RR : ST → ST → Prop) (x0 : Nat) (ks : Nat → ClassId) (σC σT : ST) : Prop := ∀ (a0 : Int32) (a1 : Int32) (a2 : Int32), ∃ (r : Int32) (uC : ST), cp_act x0 σC a0 a1 a2 = some (r, uC) ∧ ∀ vT, sm vT σT → ∃ uT : ST, tw_act vT a0 a1 a2 = some (r, uT) ∧ RR uC uT
section LWC
variable {p : Program} {l : Launch} {e : Env} {s : State} {m : MethodId} {below : List Frame} {meth : Method} {c : Code} {H : Heap} {cells slots : Nat} {Q : State → Prop} {b L : Nat} {xs : Nat → Int32} {GC G2 : GT} {σC σT : ST} {ls : Array Slot} {i : Int32} {RR : ST → ST → Prop}
theorem lw_c23 (K : LC p s m c b L xs GC G2) (hlt : l.stackTraces = false) (hsm : ∀ a0 b0 a1 b1 : ST, RR a0 b0 → sm a1 a0 → sm b1 b0 → RR a1 b1) (hC : PS cp_ft GC s σC H []) (hT : PS tw_ft G2 s σT H []) (hR : RR σC σT) (hop : OP_act23 RR (GC.2.2.1 0) GC.2.1 σC σT) (hpl : pl_ L i) (hl : lv_has ls 4 [(0, .ref b), (1, .ref (GC.2.2.1 0)), (2, .ref (G2.2.2.1 0)), (3, .int i)]) (hrm : cells + 9000 ≤ room_1.cells ∧ slots + 110000 ≤ room_1.slots) (kk : NX RR p l e s m b below meth c cells slots Q GC G2 ls) : W p l e room_1 s m #[Value.ref b] below meth c H [] cells slots Q (F0 m 825 ls []) := by
  have hal := K.2.2.2.2.2.2.2
  have hx := K.1.1.1
  have hb := K.1.1.2.1
  have hown := K.1.1.2.2.2.1
  have hts := K.1.1.2.2.2.2
  have hsx := K.2.2.1
  have hbl := K.2.2.2.1
  have hbA : ¬ GC.2.2.2.1 b := fun q => absurd (K.2.2.2.2.1 b q) (Nat.not_le.mpr hbl)
  refine lv_aload_n hx hb dL_law_825 rfl (lv_at hl 1 rfl) ?_
  refine lv_aload_n hx hb dL_law_826 rfl (lv_at hl 0 rfl) ?_
  refine lv_iload_n hx hb dL_law_827 rfl (lv_at hl 3 rfl) ?_
  refine lv_iconst (v := (1 : Int32)) hx hb dL_law_828 (by decide) ?_
  refine lv_iadd hx hb dL_law_829 ?_
  refine va_sld hx hb hsx hbl hbA hC.2 hpl.2.1 dL_law_830 ?_
  refine lv_aload_n hx hb dL_law_831 rfl (lv_at hl 0 rfl) ?_
  refine lv_iload_n hx hb dL_law_832 rfl (lv_at hl 3 rfl) ?_
  refine lv_iconst (v := (2 : Int32)) hx hb dL_law_833 (by decide) ?_
  refine lv_iadd hx hb dL_law_834 ?_
  refine va_sld hx hb hsx hbl hbA hC.2 hpl.2.2.1 dL_law_835 ?_
  refine lv_aload_n hx hb dL_law_836 rfl (lv_at hl 0 rfl) ?_
  refine lv_iload_n hx hb dL_law_837 rfl (lv_at hl 3 rfl) ?_
  refine lv_iconst (v := (3 : Int32)) hx hb dL_law_838 (by decide) ?_
  refine lv_iadd hx hb dL_law_839 ?_
  refine va_sld hx hb hsx hbl hbA hC.2 hpl.2.2.2.1 dL_law_840 ?_
  obtain ⟨r, uC, e1, hop⟩ := hop (xs (i + (1 : Int32)).toNatClampNeg) (xs (i + (2 : Int32)).toNatClampNeg) (xs (i + (3 : Int32)).toNatClampNeg)
  refine w_calli (r0 := r) (u0 := uC) (r_runV (As := [.int (xs (i + (1 : Int32)).toNatClampNeg), .int (xs (i + (2 : Int32)).toNatClampNeg), .int (xs (i + (3 : Int32)).toNatClampNeg)]) (rest := []) K.1 hC 0 cp_c0 lk_0 (mt_X0_act l GC hal σC (xs (i + (1 : Int32)).toNatClampNeg) (xs (i + (2 : Int32)).toNatClampNeg) (xs (i + (3 : Int32)).toNatClampNeg) e1) (cwV 3 hts (lw_V q1271 q1272 q1273 q110 q1274) rfl rfl rfl ⟨rfl, cdX0_act⟩ ⟨(Nat.le_of_ble_eq_true rfl), (Nat.le_of_ble_eq_true rfl)⟩) rfl hl.1 rfl (Nat.le_of_ble_eq_true rfl) dL_law_841 ⟨Nat.le_trans (Nat.add_le_add_left (by decide : 0 ≤ 9000) _) hrm.1, Nat.le_trans (Nat.add_le_add_left (by decide : 0 ≤ 110000) _) hrm.2⟩) ci_sm hC hT K.2.2.2.2.1 K.2.2.2.2.2.2.1 (fun vC vT H sC sT hC hT => ?_)
  have hR0 := hsm _ _ _ _ hR (sm_rf _) sT
  obtain ⟨uT, e2, hR2⟩ := hop vT sT
  refine lv_aload_n hx hb dL_law_844 rfl (lv_at hl 2 rfl) ?_
  refine lv_aload_n hx hb dL_law_845 rfl (lv_at hl 0 rfl) ?_
  refine lv_iload_n hx hb dL_law_846 rfl (lv_at hl 3 rfl) ?_
  refine lv_iconst (v := (1 : Int32)) hx hb dL_law_847 (by decide) ?_
  refine lv_iadd hx hb dL_law_848 ?_
  refine va_sld hx hb hsx hbl hbA hC.2 hpl.2.1 dL_law_849 ?_
  refine lv_aload_n hx hb dL_law_850 rfl (lv_at hl 0 rfl) ?_
  refine lv_iload_n hx hb dL_law_851 rfl (lv_at hl 3 rfl) ?_
  refine lv_iconst (v := (2 : Int32)) hx hb dL_law_852 (by decide) ?_
  refine lv_iadd hx hb dL_law_853 ?_
  refine va_sld hx hb hsx hbl hbA hC.2 hpl.2.2.1 dL_law_854 ?_
  refine lv_aload_n hx hb dL_law_855 rfl (lv_at hl 0 rfl) ?_
  refine lv_iload_n hx hb dL_law_856 rfl (lv_at hl 3 rfl) ?_
  refine lv_iconst (v := (3 : Int32)) hx hb dL_law_857 (by decide) ?_
  refine lv_iadd hx hb dL_law_858 ?_
  refine va_sld hx hb hsx hbl hbA hC.2 hpl.2.2.2.1 dL_law_859 ?_
  refine w_calli (r0 := r) (u0 := uT) (r_runV (As := [.int (xs (i + (1 : Int32)).toNatClampNeg), .int (xs (i + (2 : Int32)).toNatClampNeg), .int (xs (i + (3 : Int32)).toNatClampNeg)]) (rest := [.int r]) K.2.1 hT 0 tw_c0 lk_3 (mt_X3_act l G2 vT (xs (i + (1 : Int32)).toNatClampNeg) (xs (i + (2 : Int32)).toNatClampNeg) (xs (i + (3 : Int32)).toNatClampNeg) e2) (cwV 3 hts (lw_V q2202 q2203 q2204 q113 q2205) rfl rfl rfl ⟨rfl, cdX3_act⟩ ⟨(Nat.le_of_ble_eq_true rfl), (Nat.le_of_ble_eq_true rfl)⟩) rfl hl.1 rfl (Nat.le_of_ble_eq_true rfl) dL_law_860 ⟨Nat.le_trans (Nat.add_le_add_left (by decide : 0 ≤ 9000) _) hrm.1, Nat.le_trans (Nat.add_le_add_left (by decide : 0 ≤ 110000) _) hrm.2⟩) ci_sm hT hC K.2.2.2.2.2.1 (fun q h1 h2 => K.2.2.2.2.2.2.1 q h2 h1) (fun wT wC H sT2 sC2 hT hC => ?_)
  refine lv_icmp_eq (tgt := 1193) hx hb dL_law_863 (by decide) (fun _ => ?_) (fun hne => absurd rfl hne)
  refine W.widen (k := cells + 9000) (n := slots + 110000) (Nat.add_le_add_left (by decide : 0 ≤ 9000) _) (Nat.add_le_add_left (by decide : 0 ≤ 110000) _) ?_
  exact kk _ _ _ hC hT (hsm _ _ _ _ hR2 (sm_tr sC2 sC) sT2)
end LWC
def OP_trace24 (RR : ST → ST → Prop) (x0 : Nat) (ks : Nat → ClassId) (σC σT : ST) : Prop := ∀ (a0 : Int32), ∃ (r : Int32), cp_trace σC a0 = some r ∧ ∀ vT, sm vT σT → tw_trace vT a0 = some r ∧ RR σC vT
section LWC
variable {p : Program} {l : Launch} {e : Env} {s : State} {m : MethodId} {below : List Frame} {meth : Method} {c : Code} {H : Heap} {cells slots : Nat} {Q : State → Prop} {b L : Nat} {xs : Nat → Int32} {GC G2 : GT} {σC σT : ST} {ls : Array Slot} {i : Int32} {RR : ST → ST → Prop}
theorem lw_c24 (K : LC p s m c b L xs GC G2) (hlt : l.stackTraces = false) (hsm : ∀ a0 b0 a1 b1 : ST, RR a0 b0 → sm a1 a0 → sm b1 b0 → RR a1 b1) (hC : PS cp_ft GC s σC H []) (hT : PS tw_ft G2 s σT H []) (hR : RR σC σT) (hop : OP_trace24 RR (GC.2.2.1 0) GC.2.1 σC σT) (hpl : pl_ L i) (hl : lv_has ls 4 [(0, .ref b), (1, .ref (GC.2.2.1 0)), (2, .ref (G2.2.2.1 0)), (3, .int i)]) (hrm : cells + 9000 ≤ room_1.cells ∧ slots + 110000 ≤ room_1.slots) (kk : NX RR p l e s m b below meth c cells slots Q GC G2 ls) : W p l e room_1 s m #[Value.ref b] below meth c H [] cells slots Q (F0 m 868 ls []) := by
  have hal := K.2.2.2.2.2.2.2
  have hx := K.1.1.1
  have hb := K.1.1.2.1
  have hown := K.1.1.2.2.2.1
  have hts := K.1.1.2.2.2.2
  have hsx := K.2.2.1
  have hbl := K.2.2.2.1
  have hbA : ¬ GC.2.2.2.1 b := fun q => absurd (K.2.2.2.2.1 b q) (Nat.not_le.mpr hbl)
  refine lv_aload_n hx hb dL_law_868 rfl (lv_at hl 1 rfl) ?_
  refine lv_aload_n hx hb dL_law_869 rfl (lv_at hl 0 rfl) ?_
  refine lv_iload_n hx hb dL_law_870 rfl (lv_at hl 3 rfl) ?_
  refine lv_iconst (v := (1 : Int32)) hx hb dL_law_871 (by decide) ?_
  refine lv_iadd hx hb dL_law_872 ?_
  refine va_sld hx hb hsx hbl hbA hC.2 hpl.2.1 dL_law_873 ?_
  obtain ⟨r, e1, hop⟩ := hop (xs (i + (1 : Int32)).toNatClampNeg)
  refine w_calli (r0 := r) (u0 := σC) (r_runV (As := [.int (xs (i + (1 : Int32)).toNatClampNeg)]) (rest := []) K.1 hC 0 cp_c0 lk_0 (mt_X0_trace l GC σC (xs (i + (1 : Int32)).toNatClampNeg) e1) (cwV 1 hts (lw_V q1417 q1418 q1419 q110 q1420) rfl rfl rfl ⟨rfl, cdX0_trace⟩ ⟨(Nat.le_of_ble_eq_true rfl), (Nat.le_of_ble_eq_true rfl)⟩) rfl hl.1 rfl (Nat.le_of_ble_eq_true rfl) dL_law_874 ⟨Nat.le_trans (Nat.add_le_add_left (by decide : 0 ≤ 9000) _) hrm.1, Nat.le_trans (Nat.add_le_add_left (by decide : 0 ≤ 110000) _) hrm.2⟩) ci_sm hC hT K.2.2.2.2.1 K.2.2.2.2.2.2.1 (fun vC vT H sC sT hC hT => ?_)
  have hR0 := hsm _ _ _ _ hR (sm_rf _) sT
  obtain ⟨e2, hR2⟩ := hop vT sT
  refine lv_aload_n hx hb dL_law_877 rfl (lv_at hl 2 rfl) ?_
  refine lv_aload_n hx hb dL_law_878 rfl (lv_at hl 0 rfl) ?_
  refine lv_iload_n hx hb dL_law_879 rfl (lv_at hl 3 rfl) ?_
  refine lv_iconst (v := (1 : Int32)) hx hb dL_law_880 (by decide) ?_
  refine lv_iadd hx hb dL_law_881 ?_
  refine va_sld hx hb hsx hbl hbA hC.2 hpl.2.1 dL_law_882 ?_
  refine w_calli (r0 := r) (u0 := vT) (r_runV (As := [.int (xs (i + (1 : Int32)).toNatClampNeg)]) (rest := [.int r]) K.2.1 hT 0 tw_c0 lk_3 (mt_X3_trace l G2 vT (xs (i + (1 : Int32)).toNatClampNeg) e2) (cwV 1 hts (lw_V q2230 q2231 q2232 q113 q2233) rfl rfl rfl ⟨rfl, cdX3_trace⟩ ⟨(Nat.le_of_ble_eq_true rfl), (Nat.le_of_ble_eq_true rfl)⟩) rfl hl.1 rfl (Nat.le_of_ble_eq_true rfl) dL_law_883 ⟨Nat.le_trans (Nat.add_le_add_left (by decide : 0 ≤ 9000) _) hrm.1, Nat.le_trans (Nat.add_le_add_left (by decide : 0 ≤ 110000) _) hrm.2⟩) ci_sm hT hC K.2.2.2.2.2.1 (fun q h1 h2 => K.2.2.2.2.2.2.1 q h2 h1) (fun wT wC H sT2 sC2 hT hC => ?_)
  refine lv_icmp_eq (tgt := 1193) hx hb dL_law_886 (by decide) (fun _ => ?_) (fun hne => absurd rfl hne)
  refine W.widen (k := cells + 9000) (n := slots + 110000) (Nat.add_le_add_left (by decide : 0 ≤ 9000) _) (Nat.add_le_add_left (by decide : 0 ≤ 110000) _) ?_
  exact kk _ _ _ hC hT (hsm _ _ _ _ hR2 (sm_tr sC2 sC) sT2)
end LWC
def OP_keep25 (RR : ST → ST → Prop) (x0 : Nat) (ks : Nat → ClassId) (σC σT : ST) : Prop := ∀ (a0 : Int32) (a1 : Int32), ∃ (r : Int32) (uC : ST), cp_keep σC a0 a1 = some (r, uC) ∧ ∀ vT, sm vT σT → ∃ uT : ST, tw_keep vT a0 a1 = some (r, uT) ∧ RR uC uT
section LWC
variable {p : Program} {l : Launch} {e : Env} {s : State} {m : MethodId} {below : List Frame} {meth : Method} {c : Code} {H : Heap} {cells slots : Nat} {Q : State → Prop} {b L : Nat} {xs : Nat → Int32} {GC G2 : GT} {σC σT : ST} {ls : Array Slot} {i : Int32} {RR : ST → ST → Prop}
theorem lw_c25 (K : LC p s m c b L xs GC G2) (hlt : l.stackTraces = false) (hsm : ∀ a0 b0 a1 b1 : ST, RR a0 b0 → sm a1 a0 → sm b1 b0 → RR a1 b1) (hC : PS cp_ft GC s σC H []) (hT : PS tw_ft G2 s σT H []) (hR : RR σC σT) (hop : OP_keep25 RR (GC.2.2.1 0) GC.2.1 σC σT) (hpl : pl_ L i) (hl : lv_has ls 4 [(0, .ref b), (1, .ref (GC.2.2.1 0)), (2, .ref (G2.2.2.1 0)), (3, .int i)]) (hrm : cells + 9000 ≤ room_1.cells ∧ slots + 110000 ≤ room_1.slots) (kk : NX RR p l e s m b below meth c cells slots Q GC G2 ls) : W p l e room_1 s m #[Value.ref b] below meth c H [] cells slots Q (F0 m 891 ls []) := by
  have hal := K.2.2.2.2.2.2.2
  have hx := K.1.1.1
  have hb := K.1.1.2.1
  have hown := K.1.1.2.2.2.1
  have hts := K.1.1.2.2.2.2
  have hsx := K.2.2.1
  have hbl := K.2.2.2.1
  have hbA : ¬ GC.2.2.2.1 b := fun q => absurd (K.2.2.2.2.1 b q) (Nat.not_le.mpr hbl)
  refine lv_aload_n hx hb dL_law_891 rfl (lv_at hl 1 rfl) ?_
  refine lv_aload_n hx hb dL_law_892 rfl (lv_at hl 0 rfl) ?_
  refine lv_iload_n hx hb dL_law_893 rfl (lv_at hl 3 rfl) ?_
  refine lv_iconst (v := (1 : Int32)) hx hb dL_law_894 (by decide) ?_
  refine lv_iadd hx hb dL_law_895 ?_
  refine va_sld hx hb hsx hbl hbA hC.2 hpl.2.1 dL_law_896 ?_
  refine lv_aload_n hx hb dL_law_897 rfl (lv_at hl 0 rfl) ?_
  refine lv_iload_n hx hb dL_law_898 rfl (lv_at hl 3 rfl) ?_
  refine lv_iconst (v := (2 : Int32)) hx hb dL_law_899 (by decide) ?_
  refine lv_iadd hx hb dL_law_900 ?_
  refine va_sld hx hb hsx hbl hbA hC.2 hpl.2.2.1 dL_law_901 ?_
  obtain ⟨r, uC, e1, hop⟩ := hop (xs (i + (1 : Int32)).toNatClampNeg) (xs (i + (2 : Int32)).toNatClampNeg)
  refine w_calli (r0 := r) (u0 := uC) (r_runV (As := [.int (xs (i + (1 : Int32)).toNatClampNeg), .int (xs (i + (2 : Int32)).toNatClampNeg)]) (rest := []) K.1 hC 0 cp_c0 lk_0 (mt_X0_keep l GC σC (xs (i + (1 : Int32)).toNatClampNeg) (xs (i + (2 : Int32)).toNatClampNeg) e1) (cwV 2 hts (lw_V q1421 q1422 q1423 q110 q1424) rfl rfl rfl ⟨rfl, cdX0_keep⟩ ⟨(Nat.le_of_ble_eq_true rfl), (Nat.le_of_ble_eq_true rfl)⟩) rfl hl.1 rfl (Nat.le_of_ble_eq_true rfl) dL_law_902 ⟨Nat.le_trans (Nat.add_le_add_left (by decide : 0 ≤ 9000) _) hrm.1, Nat.le_trans (Nat.add_le_add_left (by decide : 0 ≤ 110000) _) hrm.2⟩) ci_sm hC hT K.2.2.2.2.1 K.2.2.2.2.2.2.1 (fun vC vT H sC sT hC hT => ?_)
  have hR0 := hsm _ _ _ _ hR (sm_rf _) sT
  obtain ⟨uT, e2, hR2⟩ := hop vT sT
  refine lv_aload_n hx hb dL_law_905 rfl (lv_at hl 2 rfl) ?_
  refine lv_aload_n hx hb dL_law_906 rfl (lv_at hl 0 rfl) ?_
  refine lv_iload_n hx hb dL_law_907 rfl (lv_at hl 3 rfl) ?_
  refine lv_iconst (v := (1 : Int32)) hx hb dL_law_908 (by decide) ?_
  refine lv_iadd hx hb dL_law_909 ?_
  refine va_sld hx hb hsx hbl hbA hC.2 hpl.2.1 dL_law_910 ?_
  refine lv_aload_n hx hb dL_law_911 rfl (lv_at hl 0 rfl) ?_
  refine lv_iload_n hx hb dL_law_912 rfl (lv_at hl 3 rfl) ?_
  refine lv_iconst (v := (2 : Int32)) hx hb dL_law_913 (by decide) ?_
  refine lv_iadd hx hb dL_law_914 ?_
  refine va_sld hx hb hsx hbl hbA hC.2 hpl.2.2.1 dL_law_915 ?_
  refine w_calli (r0 := r) (u0 := uT) (r_runV (As := [.int (xs (i + (1 : Int32)).toNatClampNeg), .int (xs (i + (2 : Int32)).toNatClampNeg)]) (rest := [.int r]) K.2.1 hT 0 tw_c0 lk_3 (mt_X3_keep l G2 vT (xs (i + (1 : Int32)).toNatClampNeg) (xs (i + (2 : Int32)).toNatClampNeg) e2) (cwV 2 hts (lw_V q2234 q2235 q2236 q113 q2237) rfl rfl rfl ⟨rfl, cdX3_keep⟩ ⟨(Nat.le_of_ble_eq_true rfl), (Nat.le_of_ble_eq_true rfl)⟩) rfl hl.1 rfl (Nat.le_of_ble_eq_true rfl) dL_law_916 ⟨Nat.le_trans (Nat.add_le_add_left (by decide : 0 ≤ 9000) _) hrm.1, Nat.le_trans (Nat.add_le_add_left (by decide : 0 ≤ 110000) _) hrm.2⟩) ci_sm hT hC K.2.2.2.2.2.1 (fun q h1 h2 => K.2.2.2.2.2.2.1 q h2 h1) (fun wT wC H sT2 sC2 hT hC => ?_)
  refine lv_icmp_eq (tgt := 1193) hx hb dL_law_919 (by decide) (fun _ => ?_) (fun hne => absurd rfl hne)
  refine W.widen (k := cells + 9000) (n := slots + 110000) (Nat.add_le_add_left (by decide : 0 ≤ 9000) _) (Nat.add_le_add_left (by decide : 0 ≤ 110000) _) ?_
  exact kk _ _ _ hC hT (hsm _ _ _ _ hR2 (sm_tr sC2 sC) sT2)
end LWC
def OP_row26 (RR : ST → ST → Prop) (x0 : Nat) (ks : Nat → ClassId) (σC σT : ST) : Prop := ∀ (a0 : Int32) (a1 : Int32) (a2 : Int32), ∃ (r : Int32) (uC : ST), cp_row ks σC a0 a1 a2 = some (r, uC) ∧ ∀ vT, sm vT σT → ∃ uT : ST, tw_row vT a0 a1 a2 = some (r, uT) ∧ RR uC uT
section LWC
variable {p : Program} {l : Launch} {e : Env} {s : State} {m : MethodId} {below : List Frame} {meth : Method} {c : Code} {H : Heap} {cells slots : Nat} {Q : State → Prop} {b L : Nat} {xs : Nat → Int32} {GC G2 : GT} {σC σT : ST} {ls : Array Slot} {i : Int32} {RR : ST → ST → Prop}
theorem lw_c26 (K : LC p s m c b L xs GC G2) (hlt : l.stackTraces = false) (hsm : ∀ a0 b0 a1 b1 : ST, RR a0 b0 → sm a1 a0 → sm b1 b0 → RR a1 b1) (hC : PS cp_ft GC s σC H []) (hT : PS tw_ft G2 s σT H []) (hR : RR σC σT) (hop : OP_row26 RR (GC.2.2.1 0) GC.2.1 σC σT) (hpl : pl_ L i) (hl : lv_has ls 4 [(0, .ref b), (1, .ref (GC.2.2.1 0)), (2, .ref (G2.2.2.1 0)), (3, .int i)]) (hrm : cells + 9000 ≤ room_1.cells ∧ slots + 110000 ≤ room_1.slots) (kk : NX RR p l e s m b below meth c cells slots Q GC G2 ls) : W p l e room_1 s m #[Value.ref b] below meth c H [] cells slots Q (F0 m 924 ls []) := by
  have hal := K.2.2.2.2.2.2.2
  have hx := K.1.1.1
  have hb := K.1.1.2.1
  have hown := K.1.1.2.2.2.1
  have hts := K.1.1.2.2.2.2
  have hsx := K.2.2.1
  have hbl := K.2.2.2.1
  have hbA : ¬ GC.2.2.2.1 b := fun q => absurd (K.2.2.2.2.1 b q) (Nat.not_le.mpr hbl)
  refine lv_aload_n hx hb dL_law_924 rfl (lv_at hl 1 rfl) ?_
  refine lv_aload_n hx hb dL_law_925 rfl (lv_at hl 0 rfl) ?_
  refine lv_iload_n hx hb dL_law_926 rfl (lv_at hl 3 rfl) ?_
  refine lv_iconst (v := (1 : Int32)) hx hb dL_law_927 (by decide) ?_
  refine lv_iadd hx hb dL_law_928 ?_
  refine va_sld hx hb hsx hbl hbA hC.2 hpl.2.1 dL_law_929 ?_
  refine lv_aload_n hx hb dL_law_930 rfl (lv_at hl 0 rfl) ?_
  refine lv_iload_n hx hb dL_law_931 rfl (lv_at hl 3 rfl) ?_
  refine lv_iconst (v := (2 : Int32)) hx hb dL_law_932 (by decide) ?_
  refine lv_iadd hx hb dL_law_933 ?_
  refine va_sld hx hb hsx hbl hbA hC.2 hpl.2.2.1 dL_law_934 ?_
  refine lv_aload_n hx hb dL_law_935 rfl (lv_at hl 0 rfl) ?_
  refine lv_iload_n hx hb dL_law_936 rfl (lv_at hl 3 rfl) ?_
  refine lv_iconst (v := (3 : Int32)) hx hb dL_law_937 (by decide) ?_
  refine lv_iadd hx hb dL_law_938 ?_
  refine va_sld hx hb hsx hbl hbA hC.2 hpl.2.2.2.1 dL_law_939 ?_
  obtain ⟨r, uC, e1, hop⟩ := hop (xs (i + (1 : Int32)).toNatClampNeg) (xs (i + (2 : Int32)).toNatClampNeg) (xs (i + (3 : Int32)).toNatClampNeg)
  refine w_calli (r0 := r) (u0 := uC) (w_runVW (As := [.int (xs (i + (1 : Int32)).toNatClampNeg), .int (xs (i + (2 : Int32)).toNatClampNeg), .int (xs (i + (3 : Int32)).toNatClampNeg)]) (rest := []) K.1 hC 0 cp_c0 lk_0 (mt_X0_row l GC hal hlt σC (xs (i + (1 : Int32)).toNatClampNeg) (xs (i + (2 : Int32)).toNatClampNeg) (xs (i + (3 : Int32)).toNatClampNeg) e1) q1425 q1426 q1427 q110 q1428 rfl rfl cdX0_row ⟨(Nat.le_of_ble_eq_true rfl), (Nat.le_of_ble_eq_true rfl)⟩ rfl hl.1 rfl (Nat.le_of_ble_eq_true rfl) dL_law_940 ⟨Nat.le_trans (Nat.add_le_add_left (by decide : 4 ≤ 9000) _) hrm.1, Nat.le_trans (Nat.add_le_add_left (by decide : 1220 ≤ 110000) _) hrm.2⟩) xi_sm hC hT K.2.2.2.2.1 K.2.2.2.2.2.2.1 (fun vC vT H sC sT hC hT => ?_)
  have hR0 := hsm _ _ _ _ hR (sm_rf _) sT
  obtain ⟨uT, e2, hR2⟩ := hop vT sT
  refine lv_aload_n hx hb dL_law_943 rfl (lv_at hl 2 rfl) ?_
  refine lv_aload_n hx hb dL_law_944 rfl (lv_at hl 0 rfl) ?_
  refine lv_iload_n hx hb dL_law_945 rfl (lv_at hl 3 rfl) ?_
  refine lv_iconst (v := (1 : Int32)) hx hb dL_law_946 (by decide) ?_
  refine lv_iadd hx hb dL_law_947 ?_
  refine va_sld hx hb hsx hbl hbA hC.2 hpl.2.1 dL_law_948 ?_
  refine lv_aload_n hx hb dL_law_949 rfl (lv_at hl 0 rfl) ?_
  refine lv_iload_n hx hb dL_law_950 rfl (lv_at hl 3 rfl) ?_
  refine lv_iconst (v := (2 : Int32)) hx hb dL_law_951 (by decide) ?_
  refine lv_iadd hx hb dL_law_952 ?_
  refine va_sld hx hb hsx hbl hbA hC.2 hpl.2.2.1 dL_law_953 ?_
  refine lv_aload_n hx hb dL_law_954 rfl (lv_at hl 0 rfl) ?_
  refine lv_iload_n hx hb dL_law_955 rfl (lv_at hl 3 rfl) ?_
  refine lv_iconst (v := (3 : Int32)) hx hb dL_law_956 (by decide) ?_
  refine lv_iadd hx hb dL_law_957 ?_
  refine va_sld hx hb hsx hbl hbA hC.2 hpl.2.2.2.1 dL_law_958 ?_
  refine w_calli (r0 := r) (u0 := uT) (r_runV (As := [.int (xs (i + (1 : Int32)).toNatClampNeg), .int (xs (i + (2 : Int32)).toNatClampNeg), .int (xs (i + (3 : Int32)).toNatClampNeg)]) (rest := [.int r]) K.2.1 hT 0 tw_c0 lk_3 (mt_X3_row l G2 vT (xs (i + (1 : Int32)).toNatClampNeg) (xs (i + (2 : Int32)).toNatClampNeg) (xs (i + (3 : Int32)).toNatClampNeg) e2) (cwV 3 hts (lw_V q2238 q2239 q2240 q113 q2241) rfl rfl rfl ⟨rfl, cdX3_row⟩ ⟨(Nat.le_of_ble_eq_true rfl), (Nat.le_of_ble_eq_true rfl)⟩) rfl hl.1 rfl (Nat.le_of_ble_eq_true rfl) dL_law_959 ⟨Nat.le_trans (Nat.add_le_add_left (by decide : 4 ≤ 9000) _) hrm.1, Nat.le_trans (Nat.add_le_add_left (by decide : 1220 ≤ 110000) _) hrm.2⟩) ci_sm hT hC K.2.2.2.2.2.1 (fun q h1 h2 => K.2.2.2.2.2.2.1 q h2 h1) (fun wT wC H sT2 sC2 hT hC => ?_)
  refine lv_icmp_eq (tgt := 1193) hx hb dL_law_962 (by decide) (fun _ => ?_) (fun hne => absurd rfl hne)
  refine W.widen (k := cells + 9000) (n := slots + 110000) (Nat.add_le_add_left (by decide : 4 ≤ 9000) _) (Nat.add_le_add_left (by decide : 1220 ≤ 110000) _) ?_
  exact kk _ _ _ hC hT (hsm _ _ _ _ hR2 (sm_tr sC2 sC) sT2)
end LWC
def OP_put27 (RR : ST → ST → Prop) (x0 : Nat) (ks : Nat → ClassId) (σC σT : ST) : Prop := ∀ (a0 : Int32) (a1 : Int32) (a2 : Int64), ∃ (r : Int32) (uC : ST), cp_put ks σC a0 a1 a2 = some (r, uC) ∧ ∀ vT, sm vT σT → ∃ uT : ST, tw_put vT a0 a1 a2 = some (r, uT) ∧ RR uC uT
section LWC
variable {p : Program} {l : Launch} {e : Env} {s : State} {m : MethodId} {below : List Frame} {meth : Method} {c : Code} {H : Heap} {cells slots : Nat} {Q : State → Prop} {b L : Nat} {xs : Nat → Int32} {GC G2 : GT} {σC σT : ST} {ls : Array Slot} {i : Int32} {RR : ST → ST → Prop}
theorem lw_c27 (K : LC p s m c b L xs GC G2) (hlt : l.stackTraces = false) (hsm : ∀ a0 b0 a1 b1 : ST, RR a0 b0 → sm a1 a0 → sm b1 b0 → RR a1 b1) (hC : PS cp_ft GC s σC H []) (hT : PS tw_ft G2 s σT H []) (hR : RR σC σT) (hop : OP_put27 RR (GC.2.2.1 0) GC.2.1 σC σT) (hpl : pl_ L i) (hl : lv_has ls 4 [(0, .ref b), (1, .ref (GC.2.2.1 0)), (2, .ref (G2.2.2.1 0)), (3, .int i)]) (hrm : cells + 9000 ≤ room_1.cells ∧ slots + 110000 ≤ room_1.slots) (kk : NX RR p l e s m b below meth c cells slots Q GC G2 ls) : W p l e room_1 s m #[Value.ref b] below meth c H [] cells slots Q (F0 m 967 ls []) := by
  have hal := K.2.2.2.2.2.2.2
  have hx := K.1.1.1
  have hb := K.1.1.2.1
  have hown := K.1.1.2.2.2.1
  have hts := K.1.1.2.2.2.2
  have hsx := K.2.2.1
  have hbl := K.2.2.2.1
  have hbA : ¬ GC.2.2.2.1 b := fun q => absurd (K.2.2.2.2.1 b q) (Nat.not_le.mpr hbl)
  refine lv_aload_n hx hb dL_law_967 rfl (lv_at hl 1 rfl) ?_
  refine lv_aload_n hx hb dL_law_968 rfl (lv_at hl 0 rfl) ?_
  refine lv_iload_n hx hb dL_law_969 rfl (lv_at hl 3 rfl) ?_
  refine lv_iconst (v := (1 : Int32)) hx hb dL_law_970 (by decide) ?_
  refine lv_iadd hx hb dL_law_971 ?_
  refine va_sld hx hb hsx hbl hbA hC.2 hpl.2.1 dL_law_972 ?_
  refine lv_aload_n hx hb dL_law_973 rfl (lv_at hl 0 rfl) ?_
  refine lv_iload_n hx hb dL_law_974 rfl (lv_at hl 3 rfl) ?_
  refine lv_iconst (v := (2 : Int32)) hx hb dL_law_975 (by decide) ?_
  refine lv_iadd hx hb dL_law_976 ?_
  refine va_sld hx hb hsx hbl hbA hC.2 hpl.2.2.1 dL_law_977 ?_
  refine lv_aload_n hx hb dL_law_978 rfl (lv_at hl 0 rfl) ?_
  refine lv_iload_n hx hb dL_law_979 rfl (lv_at hl 3 rfl) ?_
  refine lv_iconst (v := (3 : Int32)) hx hb dL_law_980 (by decide) ?_
  refine lv_iadd hx hb dL_law_981 ?_
  refine va_sld hx hb hsx hbl hbA hC.2 hpl.2.2.2.1 dL_law_982 ?_
  refine lv_i2l hx hb dL_law_983 rfl ?_
  refine lv_bipush (v := (32 : Int32)) hx hb dL_law_984 (by decide) ?_
  refine lv_lshl hx hb dL_law_986 rfl ?_
  refine lv_aload_n hx hb dL_law_987 rfl (lv_at hl 0 rfl) ?_
  refine lv_iload_n hx hb dL_law_988 rfl (lv_at hl 3 rfl) ?_
  refine lv_iconst (v := (4 : Int32)) hx hb dL_law_989 (by decide) ?_
  refine lv_iadd hx hb dL_law_990 ?_
  refine va_sld hx hb hsx hbl hbA hC.2 hpl.2.2.2.2.1 dL_law_991 ?_
  refine lv_i2l hx hb dL_law_992 rfl ?_
  refine lv_ldc2 hx hb hown (hts _ q2278) dL_law_993 ?_
  refine lv_land hx hb dL_law_996 ?_
  refine lv_lor hx hb dL_law_997 ?_
  obtain ⟨r, uC, e1, hop⟩ := hop (xs (i + (1 : Int32)).toNatClampNeg) (xs (i + (2 : Int32)).toNatClampNeg) (((((xs (i + (3 : Int32)).toNatClampNeg)).toInt64) <<< (((32 : Int32)).toInt64 &&& 63)) ||| ((((xs (i + (4 : Int32)).toNatClampNeg)).toInt64) &&& (4294967295 : Int64)))
  refine w_calli (r0 := r) (u0 := uC) (w_runVW (As := [.int (xs (i + (1 : Int32)).toNatClampNeg), .int (xs (i + (2 : Int32)).toNatClampNeg), .long (((((xs (i + (3 : Int32)).toNatClampNeg)).toInt64) <<< (((32 : Int32)).toInt64 &&& 63)) ||| ((((xs (i + (4 : Int32)).toNatClampNeg)).toInt64) &&& (4294967295 : Int64)))]) (rest := []) K.1 hC 0 cp_c0 lk_0 (mt_X0_put l GC hal hlt σC (xs (i + (1 : Int32)).toNatClampNeg) (xs (i + (2 : Int32)).toNatClampNeg) (((((xs (i + (3 : Int32)).toNatClampNeg)).toInt64) <<< (((32 : Int32)).toInt64 &&& 63)) ||| ((((xs (i + (4 : Int32)).toNatClampNeg)).toInt64) &&& (4294967295 : Int64))) e1) q1500 q1501 q1502 q110 q1503 rfl rfl cdX0_put ⟨(Nat.le_of_ble_eq_true rfl), (Nat.le_of_ble_eq_true rfl)⟩ rfl hl.1 rfl (Nat.le_of_ble_eq_true rfl) dL_law_998 ⟨Nat.le_trans (Nat.add_le_add_left (by decide : 3 ≤ 9000) _) hrm.1, Nat.le_trans (Nat.add_le_add_left (by decide : 1210 ≤ 110000) _) hrm.2⟩) xi_sm hC hT K.2.2.2.2.1 K.2.2.2.2.2.2.1 (fun vC vT H sC sT hC hT => ?_)
  have hR0 := hsm _ _ _ _ hR (sm_rf _) sT
  obtain ⟨uT, e2, hR2⟩ := hop vT sT
  refine lv_aload_n hx hb dL_law_1001 rfl (lv_at hl 2 rfl) ?_
  refine lv_aload_n hx hb dL_law_1002 rfl (lv_at hl 0 rfl) ?_
  refine lv_iload_n hx hb dL_law_1003 rfl (lv_at hl 3 rfl) ?_
  refine lv_iconst (v := (1 : Int32)) hx hb dL_law_1004 (by decide) ?_
  refine lv_iadd hx hb dL_law_1005 ?_
  refine va_sld hx hb hsx hbl hbA hC.2 hpl.2.1 dL_law_1006 ?_
  refine lv_aload_n hx hb dL_law_1007 rfl (lv_at hl 0 rfl) ?_
  refine lv_iload_n hx hb dL_law_1008 rfl (lv_at hl 3 rfl) ?_
  refine lv_iconst (v := (2 : Int32)) hx hb dL_law_1009 (by decide) ?_
  refine lv_iadd hx hb dL_law_1010 ?_
  refine va_sld hx hb hsx hbl hbA hC.2 hpl.2.2.1 dL_law_1011 ?_
  refine lv_aload_n hx hb dL_law_1012 rfl (lv_at hl 0 rfl) ?_
  refine lv_iload_n hx hb dL_law_1013 rfl (lv_at hl 3 rfl) ?_
  refine lv_iconst (v := (3 : Int32)) hx hb dL_law_1014 (by decide) ?_
  refine lv_iadd hx hb dL_law_1015 ?_
  refine va_sld hx hb hsx hbl hbA hC.2 hpl.2.2.2.1 dL_law_1016 ?_
  refine lv_i2l hx hb dL_law_1017 rfl ?_
  refine lv_bipush (v := (32 : Int32)) hx hb dL_law_1018 (by decide) ?_
  refine lv_lshl hx hb dL_law_1020 rfl ?_
  refine lv_aload_n hx hb dL_law_1021 rfl (lv_at hl 0 rfl) ?_
  refine lv_iload_n hx hb dL_law_1022 rfl (lv_at hl 3 rfl) ?_
  refine lv_iconst (v := (4 : Int32)) hx hb dL_law_1023 (by decide) ?_
  refine lv_iadd hx hb dL_law_1024 ?_
  refine va_sld hx hb hsx hbl hbA hC.2 hpl.2.2.2.2.1 dL_law_1025 ?_
  refine lv_i2l hx hb dL_law_1026 rfl ?_
  refine lv_ldc2 hx hb hown (hts _ q2278) dL_law_1027 ?_
  refine lv_land hx hb dL_law_1030 ?_
  refine lv_lor hx hb dL_law_1031 ?_
  refine w_calli (r0 := r) (u0 := uT) (r_runV (As := [.int (xs (i + (1 : Int32)).toNatClampNeg), .int (xs (i + (2 : Int32)).toNatClampNeg), .long (((((xs (i + (3 : Int32)).toNatClampNeg)).toInt64) <<< (((32 : Int32)).toInt64 &&& 63)) ||| ((((xs (i + (4 : Int32)).toNatClampNeg)).toInt64) &&& (4294967295 : Int64)))]) (rest := [.int r]) K.2.1 hT 0 tw_c0 lk_3 (mt_X3_put l G2 vT (xs (i + (1 : Int32)).toNatClampNeg) (xs (i + (2 : Int32)).toNatClampNeg) (((((xs (i + (3 : Int32)).toNatClampNeg)).toInt64) <<< (((32 : Int32)).toInt64 &&& 63)) ||| ((((xs (i + (4 : Int32)).toNatClampNeg)).toInt64) &&& (4294967295 : Int64))) e2) (cwV 3 hts (lw_V q2243 q2244 q2245 q113 q2246) rfl rfl rfl ⟨rfl, cdX3_put⟩ ⟨(Nat.le_of_ble_eq_true rfl), (Nat.le_of_ble_eq_true rfl)⟩) rfl hl.1 rfl (Nat.le_of_ble_eq_true rfl) dL_law_1032 ⟨Nat.le_trans (Nat.add_le_add_left (by decide : 3 ≤ 9000) _) hrm.1, Nat.le_trans (Nat.add_le_add_left (by decide : 1210 ≤ 110000) _) hrm.2⟩) ci_sm hT hC K.2.2.2.2.2.1 (fun q h1 h2 => K.2.2.2.2.2.2.1 q h2 h1) (fun wT wC H sT2 sC2 hT hC => ?_)
  refine lv_icmp_eq (tgt := 1193) hx hb dL_law_1035 (by decide) (fun _ => ?_) (fun hne => absurd rfl hne)
  refine W.widen (k := cells + 9000) (n := slots + 110000) (Nat.add_le_add_left (by decide : 3 ≤ 9000) _) (Nat.add_le_add_left (by decide : 1210 ≤ 110000) _) ?_
  exact kk _ _ _ hC hT (hsm _ _ _ _ hR2 (sm_tr sC2 sC) sT2)
end LWC
def OP_element28 (RR : ST → ST → Prop) (x0 : Nat) (ks : Nat → ClassId) (σC σT : ST) : Prop := ∀ (a0 : Int32) (a1 : Int32), ∃ (r : Int64) (uC : ST), cp_element ks σC a0 a1 = some (r, uC) ∧ ∀ vT, sm vT σT → tw_element vT a0 a1 = some r ∧ RR uC vT
section LWC
variable {p : Program} {l : Launch} {e : Env} {s : State} {m : MethodId} {below : List Frame} {meth : Method} {c : Code} {H : Heap} {cells slots : Nat} {Q : State → Prop} {b L : Nat} {xs : Nat → Int32} {GC G2 : GT} {σC σT : ST} {ls : Array Slot} {i : Int32} {RR : ST → ST → Prop}
theorem lw_c28 (K : LC p s m c b L xs GC G2) (hlt : l.stackTraces = false) (hsm : ∀ a0 b0 a1 b1 : ST, RR a0 b0 → sm a1 a0 → sm b1 b0 → RR a1 b1) (hC : PS cp_ft GC s σC H []) (hT : PS tw_ft G2 s σT H []) (hR : RR σC σT) (hop : OP_element28 RR (GC.2.2.1 0) GC.2.1 σC σT) (hpl : pl_ L i) (hl : lv_has ls 4 [(0, .ref b), (1, .ref (GC.2.2.1 0)), (2, .ref (G2.2.2.1 0)), (3, .int i)]) (hrm : cells + 9000 ≤ room_1.cells ∧ slots + 110000 ≤ room_1.slots) (kk : NX RR p l e s m b below meth c cells slots Q GC G2 ls) : W p l e room_1 s m #[Value.ref b] below meth c H [] cells slots Q (F0 m 1040 ls []) := by
  have hal := K.2.2.2.2.2.2.2
  have hx := K.1.1.1
  have hb := K.1.1.2.1
  have hown := K.1.1.2.2.2.1
  have hts := K.1.1.2.2.2.2
  have hsx := K.2.2.1
  have hbl := K.2.2.2.1
  have hbA : ¬ GC.2.2.2.1 b := fun q => absurd (K.2.2.2.2.1 b q) (Nat.not_le.mpr hbl)
  refine lv_aload_n hx hb dL_law_1040 rfl (lv_at hl 1 rfl) ?_
  refine lv_aload_n hx hb dL_law_1041 rfl (lv_at hl 0 rfl) ?_
  refine lv_iload_n hx hb dL_law_1042 rfl (lv_at hl 3 rfl) ?_
  refine lv_iconst (v := (1 : Int32)) hx hb dL_law_1043 (by decide) ?_
  refine lv_iadd hx hb dL_law_1044 ?_
  refine va_sld hx hb hsx hbl hbA hC.2 hpl.2.1 dL_law_1045 ?_
  refine lv_aload_n hx hb dL_law_1046 rfl (lv_at hl 0 rfl) ?_
  refine lv_iload_n hx hb dL_law_1047 rfl (lv_at hl 3 rfl) ?_
  refine lv_iconst (v := (2 : Int32)) hx hb dL_law_1048 (by decide) ?_
  refine lv_iadd hx hb dL_law_1049 ?_
  refine va_sld hx hb hsx hbl hbA hC.2 hpl.2.2.1 dL_law_1050 ?_
  obtain ⟨r, uC, e1, hop⟩ := hop (xs (i + (1 : Int32)).toNatClampNeg) (xs (i + (2 : Int32)).toNatClampNeg)
  refine w_calll (r0 := r) (u0 := uC) (w_runVW (As := [.int (xs (i + (1 : Int32)).toNatClampNeg), .int (xs (i + (2 : Int32)).toNatClampNeg)]) (rest := []) K.1 hC 0 cp_c0 lk_0 (mt_X0_element l GC hal hlt σC (xs (i + (1 : Int32)).toNatClampNeg) (xs (i + (2 : Int32)).toNatClampNeg) e1) q1523 q1524 q1525 q110 q1526 rfl rfl cdX0_element ⟨(Nat.le_of_ble_eq_true rfl), (Nat.le_of_ble_eq_true rfl)⟩ rfl hl.1 rfl (Nat.le_of_ble_eq_true rfl) dL_law_1051 ⟨Nat.le_trans (Nat.add_le_add_left (by decide : 3 ≤ 9000) _) hrm.1, Nat.le_trans (Nat.add_le_add_left (by decide : 1210 ≤ 110000) _) hrm.2⟩) xi_sm hC hT K.2.2.2.2.1 K.2.2.2.2.2.2.1 (fun vC vT H sC sT hC hT => ?_)
  have hR0 := hsm _ _ _ _ hR (sm_rf _) sT
  obtain ⟨e2, hR2⟩ := hop vT sT
  refine lv_aload_n hx hb dL_law_1054 rfl (lv_at hl 2 rfl) ?_
  refine lv_aload_n hx hb dL_law_1055 rfl (lv_at hl 0 rfl) ?_
  refine lv_iload_n hx hb dL_law_1056 rfl (lv_at hl 3 rfl) ?_
  refine lv_iconst (v := (1 : Int32)) hx hb dL_law_1057 (by decide) ?_
  refine lv_iadd hx hb dL_law_1058 ?_
  refine va_sld hx hb hsx hbl hbA hC.2 hpl.2.1 dL_law_1059 ?_
  refine lv_aload_n hx hb dL_law_1060 rfl (lv_at hl 0 rfl) ?_
  refine lv_iload_n hx hb dL_law_1061 rfl (lv_at hl 3 rfl) ?_
  refine lv_iconst (v := (2 : Int32)) hx hb dL_law_1062 (by decide) ?_
  refine lv_iadd hx hb dL_law_1063 ?_
  refine va_sld hx hb hsx hbl hbA hC.2 hpl.2.2.1 dL_law_1064 ?_
  refine w_calll (r0 := r) (u0 := vT) (r_runV (As := [.int (xs (i + (1 : Int32)).toNatClampNeg), .int (xs (i + (2 : Int32)).toNatClampNeg)]) (rest := [.long r]) K.2.1 hT 0 tw_c0 lk_3 (mt_X3_element l G2 vT (xs (i + (1 : Int32)).toNatClampNeg) (xs (i + (2 : Int32)).toNatClampNeg) e2) (cwV 2 hts (lw_V q2254 q2255 q2256 q113 q2257) rfl rfl rfl ⟨rfl, cdX3_element⟩ ⟨(Nat.le_of_ble_eq_true rfl), (Nat.le_of_ble_eq_true rfl)⟩) rfl hl.1 rfl (Nat.le_of_ble_eq_true rfl) dL_law_1065 ⟨Nat.le_trans (Nat.add_le_add_left (by decide : 3 ≤ 9000) _) hrm.1, Nat.le_trans (Nat.add_le_add_left (by decide : 1210 ≤ 110000) _) hrm.2⟩) ci_sm hT hC K.2.2.2.2.2.1 (fun q h1 h2 => K.2.2.2.2.2.2.1 q h2 h1) (fun wT wC H sT2 sC2 hT hC => ?_)
  refine W.lcmp hx hb dL_law_1068 ?_
  refine lv_if_eq (tgt := 1193) hx hb dL_law_1069 (by decide) (fun _ => ?_) (fun hne => absurd (lg_cmp0 _) hne)
  refine W.widen (k := cells + 9000) (n := slots + 110000) (Nat.add_le_add_left (by decide : 3 ≤ 9000) _) (Nat.add_le_add_left (by decide : 1210 ≤ 110000) _) ?_
  exact kk _ _ _ hC hT (hsm _ _ _ _ hR2 (sm_tr sC2 sC) sT2)
end LWC
def OP_shift29 (RR : ST → ST → Prop) (x0 : Nat) (ks : Nat → ClassId) (σC σT : ST) : Prop := ∀ (a0 : Int32) (a1 : Int32) (a2 : Int32) (a3 : Int32) (a4 : Int32), ∃ (r : Int32) (uC : ST), cp_shift ks σC a0 a1 a2 a3 a4 = some (r, uC) ∧ ∀ vT, sm vT σT → ∃ uT : ST, tw_shift vT a0 a1 a2 a3 a4 = some (r, uT) ∧ RR uC uT
section LWC
variable {p : Program} {l : Launch} {e : Env} {s : State} {m : MethodId} {below : List Frame} {meth : Method} {c : Code} {H : Heap} {cells slots : Nat} {Q : State → Prop} {b L : Nat} {xs : Nat → Int32} {GC G2 : GT} {σC σT : ST} {ls : Array Slot} {i : Int32} {RR : ST → ST → Prop}
theorem lw_c29 (K : LC p s m c b L xs GC G2) (hlt : l.stackTraces = false) (hsm : ∀ a0 b0 a1 b1 : ST, RR a0 b0 → sm a1 a0 → sm b1 b0 → RR a1 b1) (hC : PS cp_ft GC s σC H []) (hT : PS tw_ft G2 s σT H []) (hR : RR σC σT) (hop : OP_shift29 RR (GC.2.2.1 0) GC.2.1 σC σT) (hpl : pl_ L i) (hl : lv_has ls 4 [(0, .ref b), (1, .ref (GC.2.2.1 0)), (2, .ref (G2.2.2.1 0)), (3, .int i)]) (hrm : cells + 9000 ≤ room_1.cells ∧ slots + 110000 ≤ room_1.slots) (kk : NX RR p l e s m b below meth c cells slots Q GC G2 ls) : W p l e room_1 s m #[Value.ref b] below meth c H [] cells slots Q (F0 m 1074 ls []) := by
  have hal := K.2.2.2.2.2.2.2
  have hx := K.1.1.1
  have hb := K.1.1.2.1
  have hown := K.1.1.2.2.2.1
  have hts := K.1.1.2.2.2.2
  have hsx := K.2.2.1
  have hbl := K.2.2.2.1
  have hbA : ¬ GC.2.2.2.1 b := fun q => absurd (K.2.2.2.2.1 b q) (Nat.not_le.mpr hbl)
  refine lv_aload_n hx hb dL_law_1074 rfl (lv_at hl 1 rfl) ?_
  refine lv_aload_n hx hb dL_law_1075 rfl (lv_at hl 0 rfl) ?_
  refine lv_iload_n hx hb dL_law_1076 rfl (lv_at hl 3 rfl) ?_
  refine lv_iconst (v := (1 : Int32)) hx hb dL_law_1077 (by decide) ?_
  refine lv_iadd hx hb dL_law_1078 ?_
  refine va_sld hx hb hsx hbl hbA hC.2 hpl.2.1 dL_law_1079 ?_
  refine lv_aload_n hx hb dL_law_1080 rfl (lv_at hl 0 rfl) ?_
  refine lv_iload_n hx hb dL_law_1081 rfl (lv_at hl 3 rfl) ?_
  refine lv_iconst (v := (2 : Int32)) hx hb dL_law_1082 (by decide) ?_
  refine lv_iadd hx hb dL_law_1083 ?_
  refine va_sld hx hb hsx hbl hbA hC.2 hpl.2.2.1 dL_law_1084 ?_
  refine lv_aload_n hx hb dL_law_1085 rfl (lv_at hl 0 rfl) ?_
  refine lv_iload_n hx hb dL_law_1086 rfl (lv_at hl 3 rfl) ?_
  refine lv_iconst (v := (3 : Int32)) hx hb dL_law_1087 (by decide) ?_
  refine lv_iadd hx hb dL_law_1088 ?_
  refine va_sld hx hb hsx hbl hbA hC.2 hpl.2.2.2.1 dL_law_1089 ?_
  refine lv_aload_n hx hb dL_law_1090 rfl (lv_at hl 0 rfl) ?_
  refine lv_iload_n hx hb dL_law_1091 rfl (lv_at hl 3 rfl) ?_
  refine lv_iconst (v := (4 : Int32)) hx hb dL_law_1092 (by decide) ?_
  refine lv_iadd hx hb dL_law_1093 ?_
  refine va_sld hx hb hsx hbl hbA hC.2 hpl.2.2.2.2.1 dL_law_1094 ?_
  refine lv_aload_n hx hb dL_law_1095 rfl (lv_at hl 0 rfl) ?_
  refine lv_iload_n hx hb dL_law_1096 rfl (lv_at hl 3 rfl) ?_
  refine lv_iconst (v := (5 : Int32)) hx hb dL_law_1097 (by decide) ?_
  refine lv_iadd hx hb dL_law_1098 ?_
  refine va_sld hx hb hsx hbl hbA hC.2 hpl.2.2.2.2.2 dL_law_1099 ?_
  obtain ⟨r, uC, e1, hop⟩ := hop (xs (i + (1 : Int32)).toNatClampNeg) (xs (i + (2 : Int32)).toNatClampNeg) (xs (i + (3 : Int32)).toNatClampNeg) (xs (i + (4 : Int32)).toNatClampNeg) (xs (i + (5 : Int32)).toNatClampNeg)
  refine w_calli (r0 := r) (u0 := uC) (w_runVW (As := [.int (xs (i + (1 : Int32)).toNatClampNeg), .int (xs (i + (2 : Int32)).toNatClampNeg), .int (xs (i + (3 : Int32)).toNatClampNeg), .int (xs (i + (4 : Int32)).toNatClampNeg), .int (xs (i + (5 : Int32)).toNatClampNeg)]) (rest := []) K.1 hC 0 cp_c0 lk_0 (mt_X0_shift l GC hal hlt σC (xs (i + (1 : Int32)).toNatClampNeg) (xs (i + (2 : Int32)).toNatClampNeg) (xs (i + (3 : Int32)).toNatClampNeg) (xs (i + (4 : Int32)).toNatClampNeg) (xs (i + (5 : Int32)).toNatClampNeg) e1) q1542 q1543 q1544 q110 q1545 rfl rfl cdX0_shift ⟨(Nat.le_of_ble_eq_true rfl), (Nat.le_of_ble_eq_true rfl)⟩ rfl hl.1 rfl (Nat.le_of_ble_eq_true rfl) dL_law_1100 ⟨Nat.le_trans (Nat.add_le_add_left (by decide : 3 ≤ 9000) _) hrm.1, Nat.le_trans (Nat.add_le_add_left (by decide : 1210 ≤ 110000) _) hrm.2⟩) xi_sm hC hT K.2.2.2.2.1 K.2.2.2.2.2.2.1 (fun vC vT H sC sT hC hT => ?_)
  have hR0 := hsm _ _ _ _ hR (sm_rf _) sT
  obtain ⟨uT, e2, hR2⟩ := hop vT sT
  refine lv_aload_n hx hb dL_law_1103 rfl (lv_at hl 2 rfl) ?_
  refine lv_aload_n hx hb dL_law_1104 rfl (lv_at hl 0 rfl) ?_
  refine lv_iload_n hx hb dL_law_1105 rfl (lv_at hl 3 rfl) ?_
  refine lv_iconst (v := (1 : Int32)) hx hb dL_law_1106 (by decide) ?_
  refine lv_iadd hx hb dL_law_1107 ?_
  refine va_sld hx hb hsx hbl hbA hC.2 hpl.2.1 dL_law_1108 ?_
  refine lv_aload_n hx hb dL_law_1109 rfl (lv_at hl 0 rfl) ?_
  refine lv_iload_n hx hb dL_law_1110 rfl (lv_at hl 3 rfl) ?_
  refine lv_iconst (v := (2 : Int32)) hx hb dL_law_1111 (by decide) ?_
  refine lv_iadd hx hb dL_law_1112 ?_
  refine va_sld hx hb hsx hbl hbA hC.2 hpl.2.2.1 dL_law_1113 ?_
  refine lv_aload_n hx hb dL_law_1114 rfl (lv_at hl 0 rfl) ?_
  refine lv_iload_n hx hb dL_law_1115 rfl (lv_at hl 3 rfl) ?_
  refine lv_iconst (v := (3 : Int32)) hx hb dL_law_1116 (by decide) ?_
  refine lv_iadd hx hb dL_law_1117 ?_
  refine va_sld hx hb hsx hbl hbA hC.2 hpl.2.2.2.1 dL_law_1118 ?_
  refine lv_aload_n hx hb dL_law_1119 rfl (lv_at hl 0 rfl) ?_
  refine lv_iload_n hx hb dL_law_1120 rfl (lv_at hl 3 rfl) ?_
  refine lv_iconst (v := (4 : Int32)) hx hb dL_law_1121 (by decide) ?_
  refine lv_iadd hx hb dL_law_1122 ?_
  refine va_sld hx hb hsx hbl hbA hC.2 hpl.2.2.2.2.1 dL_law_1123 ?_
  refine lv_aload_n hx hb dL_law_1124 rfl (lv_at hl 0 rfl) ?_
  refine lv_iload_n hx hb dL_law_1125 rfl (lv_at hl 3 rfl) ?_
  refine lv_iconst (v := (5 : Int32)) hx hb dL_law_1126 (by decide) ?_
  refine lv_iadd hx hb dL_law_1127 ?_
  refine va_sld hx hb hsx hbl hbA hC.2 hpl.2.2.2.2.2 dL_law_1128 ?_
  refine w_calli (r0 := r) (u0 := uT) (r_runV (As := [.int (xs (i + (1 : Int32)).toNatClampNeg), .int (xs (i + (2 : Int32)).toNatClampNeg), .int (xs (i + (3 : Int32)).toNatClampNeg), .int (xs (i + (4 : Int32)).toNatClampNeg), .int (xs (i + (5 : Int32)).toNatClampNeg)]) (rest := [.int r]) K.2.1 hT 0 tw_c0 lk_3 (mt_X3_shift l G2 vT (xs (i + (1 : Int32)).toNatClampNeg) (xs (i + (2 : Int32)).toNatClampNeg) (xs (i + (3 : Int32)).toNatClampNeg) (xs (i + (4 : Int32)).toNatClampNeg) (xs (i + (5 : Int32)).toNatClampNeg) e2) (cwV 5 hts (lw_V q2259 q2260 q2261 q113 q2262) rfl rfl rfl ⟨rfl, cdX3_shift⟩ ⟨(Nat.le_of_ble_eq_true rfl), (Nat.le_of_ble_eq_true rfl)⟩) rfl hl.1 rfl (Nat.le_of_ble_eq_true rfl) dL_law_1129 ⟨Nat.le_trans (Nat.add_le_add_left (by decide : 3 ≤ 9000) _) hrm.1, Nat.le_trans (Nat.add_le_add_left (by decide : 1210 ≤ 110000) _) hrm.2⟩) ci_sm hT hC K.2.2.2.2.2.1 (fun q h1 h2 => K.2.2.2.2.2.2.1 q h2 h1) (fun wT wC H sT2 sC2 hT hC => ?_)
  refine lv_icmp_eq (tgt := 1193) hx hb dL_law_1132 (by decide) (fun _ => ?_) (fun hne => absurd rfl hne)
  refine W.widen (k := cells + 9000) (n := slots + 110000) (Nat.add_le_add_left (by decide : 3 ≤ 9000) _) (Nat.add_le_add_left (by decide : 1210 ≤ 110000) _) ?_
  exact kk _ _ _ hC hT (hsm _ _ _ _ hR2 (sm_tr sC2 sC) sT2)
end LWC
def OP_taken30 (RR : ST → ST → Prop) (x0 : Nat) (ks : Nat → ClassId) (σC σT : ST) : Prop := ∀ (a0 : Int32) (a1 : Int32), ∃ (r : Int32) (uC : ST), cp_taken ks σC a0 a1 = some (r, uC) ∧ ∀ vT, sm vT σT → tw_taken vT a0 a1 = some r ∧ RR uC vT
section LWC
variable {p : Program} {l : Launch} {e : Env} {s : State} {m : MethodId} {below : List Frame} {meth : Method} {c : Code} {H : Heap} {cells slots : Nat} {Q : State → Prop} {b L : Nat} {xs : Nat → Int32} {GC G2 : GT} {σC σT : ST} {ls : Array Slot} {i : Int32} {RR : ST → ST → Prop}
theorem lw_c30 (K : LC p s m c b L xs GC G2) (hlt : l.stackTraces = false) (hsm : ∀ a0 b0 a1 b1 : ST, RR a0 b0 → sm a1 a0 → sm b1 b0 → RR a1 b1) (hC : PS cp_ft GC s σC H []) (hT : PS tw_ft G2 s σT H []) (hR : RR σC σT) (hop : OP_taken30 RR (GC.2.2.1 0) GC.2.1 σC σT) (hpl : pl_ L i) (hl : lv_has ls 4 [(0, .ref b), (1, .ref (GC.2.2.1 0)), (2, .ref (G2.2.2.1 0)), (3, .int i)]) (hrm : cells + 9000 ≤ room_1.cells ∧ slots + 110000 ≤ room_1.slots) (kk : NX RR p l e s m b below meth c cells slots Q GC G2 ls) : W p l e room_1 s m #[Value.ref b] below meth c H [] cells slots Q (F0 m 1137 ls []) := by
  have hal := K.2.2.2.2.2.2.2
  have hx := K.1.1.1
  have hb := K.1.1.2.1
  have hown := K.1.1.2.2.2.1
  have hts := K.1.1.2.2.2.2
  have hsx := K.2.2.1
  have hbl := K.2.2.2.1
  have hbA : ¬ GC.2.2.2.1 b := fun q => absurd (K.2.2.2.2.1 b q) (Nat.not_le.mpr hbl)
  refine lv_aload_n hx hb dL_law_1137 rfl (lv_at hl 1 rfl) ?_
  refine lv_aload_n hx hb dL_law_1138 rfl (lv_at hl 0 rfl) ?_
  refine lv_iload_n hx hb dL_law_1139 rfl (lv_at hl 3 rfl) ?_
  refine lv_iconst (v := (1 : Int32)) hx hb dL_law_1140 (by decide) ?_
  refine lv_iadd hx hb dL_law_1141 ?_
  refine va_sld hx hb hsx hbl hbA hC.2 hpl.2.1 dL_law_1142 ?_
  refine lv_aload_n hx hb dL_law_1143 rfl (lv_at hl 0 rfl) ?_
  refine lv_iload_n hx hb dL_law_1144 rfl (lv_at hl 3 rfl) ?_
  refine lv_iconst (v := (2 : Int32)) hx hb dL_law_1145 (by decide) ?_
  refine lv_iadd hx hb dL_law_1146 ?_
  refine va_sld hx hb hsx hbl hbA hC.2 hpl.2.2.1 dL_law_1147 ?_
  obtain ⟨r, uC, e1, hop⟩ := hop (xs (i + (1 : Int32)).toNatClampNeg) (xs (i + (2 : Int32)).toNatClampNeg)
  refine w_calli (r0 := r) (u0 := uC) (w_runVW (As := [.int (xs (i + (1 : Int32)).toNatClampNeg), .int (xs (i + (2 : Int32)).toNatClampNeg)]) (rest := []) K.1 hC 0 cp_c0 lk_0 (mt_X0_taken l GC hal hlt σC (xs (i + (1 : Int32)).toNatClampNeg) (xs (i + (2 : Int32)).toNatClampNeg) e1) q1576 q1577 q1578 q110 q1579 rfl rfl cdX0_taken ⟨(Nat.le_of_ble_eq_true rfl), (Nat.le_of_ble_eq_true rfl)⟩ rfl hl.1 rfl (Nat.le_of_ble_eq_true rfl) dL_law_1148 ⟨Nat.le_trans (Nat.add_le_add_left (by decide : 3 ≤ 9000) _) hrm.1, Nat.le_trans (Nat.add_le_add_left (by decide : 1210 ≤ 110000) _) hrm.2⟩) xi_sm hC hT K.2.2.2.2.1 K.2.2.2.2.2.2.1 (fun vC vT H sC sT hC hT => ?_)
  have hR0 := hsm _ _ _ _ hR (sm_rf _) sT
  obtain ⟨e2, hR2⟩ := hop vT sT
  refine lv_aload_n hx hb dL_law_1151 rfl (lv_at hl 2 rfl) ?_
  refine lv_aload_n hx hb dL_law_1152 rfl (lv_at hl 0 rfl) ?_
  refine lv_iload_n hx hb dL_law_1153 rfl (lv_at hl 3 rfl) ?_
  refine lv_iconst (v := (1 : Int32)) hx hb dL_law_1154 (by decide) ?_
  refine lv_iadd hx hb dL_law_1155 ?_
  refine va_sld hx hb hsx hbl hbA hC.2 hpl.2.1 dL_law_1156 ?_
  refine lv_aload_n hx hb dL_law_1157 rfl (lv_at hl 0 rfl) ?_
  refine lv_iload_n hx hb dL_law_1158 rfl (lv_at hl 3 rfl) ?_
  refine lv_iconst (v := (2 : Int32)) hx hb dL_law_1159 (by decide) ?_
  refine lv_iadd hx hb dL_law_1160 ?_
  refine va_sld hx hb hsx hbl hbA hC.2 hpl.2.2.1 dL_law_1161 ?_
  refine w_calli (r0 := r) (u0 := vT) (r_runV (As := [.int (xs (i + (1 : Int32)).toNatClampNeg), .int (xs (i + (2 : Int32)).toNatClampNeg)]) (rest := [.int r]) K.2.1 hT 0 tw_c0 lk_3 (mt_X3_taken l G2 vT (xs (i + (1 : Int32)).toNatClampNeg) (xs (i + (2 : Int32)).toNatClampNeg) e2) (cwV 2 hts (lw_V q2263 q2264 q2265 q113 q2266) rfl rfl rfl ⟨rfl, cdX3_taken⟩ ⟨(Nat.le_of_ble_eq_true rfl), (Nat.le_of_ble_eq_true rfl)⟩) rfl hl.1 rfl (Nat.le_of_ble_eq_true rfl) dL_law_1162 ⟨Nat.le_trans (Nat.add_le_add_left (by decide : 3 ≤ 9000) _) hrm.1, Nat.le_trans (Nat.add_le_add_left (by decide : 1210 ≤ 110000) _) hrm.2⟩) ci_sm hT hC K.2.2.2.2.2.1 (fun q h1 h2 => K.2.2.2.2.2.2.1 q h2 h1) (fun wT wC H sT2 sC2 hT hC => ?_)
  refine lv_icmp_eq (tgt := 1193) hx hb dL_law_1165 (by decide) (fun _ => ?_) (fun hne => absurd rfl hne)
  refine W.widen (k := cells + 9000) (n := slots + 110000) (Nat.add_le_add_left (by decide : 3 ≤ 9000) _) (Nat.add_le_add_left (by decide : 1210 ≤ 110000) _) ?_
  exact kk _ _ _ hC hT (hsm _ _ _ _ hR2 (sm_tr sC2 sC) sT2)
end LWC
def OP_count31 (RR : ST → ST → Prop) (x0 : Nat) (ks : Nat → ClassId) (σC σT : ST) : Prop := ∀ (a0 : Int32), ∃ (r : Int32), cp_count σC a0 = some r ∧ ∀ vT, sm vT σT → tw_count vT a0 = some r ∧ RR σC vT
section LWC
variable {p : Program} {l : Launch} {e : Env} {s : State} {m : MethodId} {below : List Frame} {meth : Method} {c : Code} {H : Heap} {cells slots : Nat} {Q : State → Prop} {b L : Nat} {xs : Nat → Int32} {GC G2 : GT} {σC σT : ST} {ls : Array Slot} {i : Int32} {RR : ST → ST → Prop}
theorem lw_c31 (K : LC p s m c b L xs GC G2) (hlt : l.stackTraces = false) (hsm : ∀ a0 b0 a1 b1 : ST, RR a0 b0 → sm a1 a0 → sm b1 b0 → RR a1 b1) (hC : PS cp_ft GC s σC H []) (hT : PS tw_ft G2 s σT H []) (hR : RR σC σT) (hop : OP_count31 RR (GC.2.2.1 0) GC.2.1 σC σT) (hpl : pl_ L i) (hl : lv_has ls 4 [(0, .ref b), (1, .ref (GC.2.2.1 0)), (2, .ref (G2.2.2.1 0)), (3, .int i)]) (hrm : cells + 9000 ≤ room_1.cells ∧ slots + 110000 ≤ room_1.slots) (kk : NX RR p l e s m b below meth c cells slots Q GC G2 ls) : W p l e room_1 s m #[Value.ref b] below meth c H [] cells slots Q (F0 m 1170 ls []) := by
  have hal := K.2.2.2.2.2.2.2
  have hx := K.1.1.1
  have hb := K.1.1.2.1
  have hown := K.1.1.2.2.2.1
  have hts := K.1.1.2.2.2.2
  have hsx := K.2.2.1
  have hbl := K.2.2.2.1
  have hbA : ¬ GC.2.2.2.1 b := fun q => absurd (K.2.2.2.2.1 b q) (Nat.not_le.mpr hbl)
  refine lv_aload_n hx hb dL_law_1170 rfl (lv_at hl 1 rfl) ?_
  refine lv_aload_n hx hb dL_law_1171 rfl (lv_at hl 0 rfl) ?_
  refine lv_iload_n hx hb dL_law_1172 rfl (lv_at hl 3 rfl) ?_
  refine lv_iconst (v := (1 : Int32)) hx hb dL_law_1173 (by decide) ?_
  refine lv_iadd hx hb dL_law_1174 ?_
  refine va_sld hx hb hsx hbl hbA hC.2 hpl.2.1 dL_law_1175 ?_
  obtain ⟨r, e1, hop⟩ := hop (xs (i + (1 : Int32)).toNatClampNeg)
  refine w_calli (r0 := r) (u0 := σC) (r_runV (As := [.int (xs (i + (1 : Int32)).toNatClampNeg)]) (rest := []) K.1 hC 0 cp_c0 lk_0 (mt_X0_count l GC σC (xs (i + (1 : Int32)).toNatClampNeg) e1) (cwV 1 hts (lw_V q1628 q1629 q1630 q110 q1631) rfl rfl rfl ⟨rfl, cdX0_count⟩ ⟨(Nat.le_of_ble_eq_true rfl), (Nat.le_of_ble_eq_true rfl)⟩) rfl hl.1 rfl (Nat.le_of_ble_eq_true rfl) dL_law_1176 ⟨Nat.le_trans (Nat.add_le_add_left (by decide : 0 ≤ 9000) _) hrm.1, Nat.le_trans (Nat.add_le_add_left (by decide : 0 ≤ 110000) _) hrm.2⟩) ci_sm hC hT K.2.2.2.2.1 K.2.2.2.2.2.2.1 (fun vC vT H sC sT hC hT => ?_)
  have hR0 := hsm _ _ _ _ hR (sm_rf _) sT
  obtain ⟨e2, hR2⟩ := hop vT sT
  refine lv_aload_n hx hb dL_law_1179 rfl (lv_at hl 2 rfl) ?_
  refine lv_aload_n hx hb dL_law_1180 rfl (lv_at hl 0 rfl) ?_
  refine lv_iload_n hx hb dL_law_1181 rfl (lv_at hl 3 rfl) ?_
  refine lv_iconst (v := (1 : Int32)) hx hb dL_law_1182 (by decide) ?_
  refine lv_iadd hx hb dL_law_1183 ?_
  refine va_sld hx hb hsx hbl hbA hC.2 hpl.2.1 dL_law_1184 ?_
  refine w_calli (r0 := r) (u0 := vT) (r_runV (As := [.int (xs (i + (1 : Int32)).toNatClampNeg)]) (rest := [.int r]) K.2.1 hT 0 tw_c0 lk_3 (mt_X3_count l G2 vT (xs (i + (1 : Int32)).toNatClampNeg) e2) (cwV 1 hts (lw_V q2274 q2275 q2276 q113 q2277) rfl rfl rfl ⟨rfl, cdX3_count⟩ ⟨(Nat.le_of_ble_eq_true rfl), (Nat.le_of_ble_eq_true rfl)⟩) rfl hl.1 rfl (Nat.le_of_ble_eq_true rfl) dL_law_1185 ⟨Nat.le_trans (Nat.add_le_add_left (by decide : 0 ≤ 9000) _) hrm.1, Nat.le_trans (Nat.add_le_add_left (by decide : 0 ≤ 110000) _) hrm.2⟩) ci_sm hT hC K.2.2.2.2.2.1 (fun q h1 h2 => K.2.2.2.2.2.2.1 q h2 h1) (fun wT wC H sT2 sC2 hT hC => ?_)
  refine lv_icmp_eq (tgt := 1193) hx hb dL_law_1188 (by decide) (fun _ => ?_) (fun hne => absurd rfl hne)
  refine W.widen (k := cells + 9000) (n := slots + 110000) (Nat.add_le_add_left (by decide : 0 ≤ 9000) _) (Nat.add_le_add_left (by decide : 0 ≤ 110000) _) ?_
  exact kk _ _ _ hC hT (hsm _ _ _ _ hR2 (sm_tr sC2 sC) sT2)
end LWC
