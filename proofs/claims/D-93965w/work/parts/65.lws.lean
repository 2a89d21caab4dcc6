set_option maxRecDepth 100000
/-! THE LAW, but for the plain law. -/
theorem ev_ad {b : Nat} {s : State} {A : Nat → Prop} (htb : ∀ w ∈ lw_tbl, w.before #[Value.ref b] s = true) (h : (Jvm.Cond.and given_1 narrow_1).before #[Value.ref b] s = true) (hM : MR s) (hA : ∀ a : Nat, a < s.heap.size → ¬ A a) : ∃ ad : Nat → Nat, ∀ (D : va_G) (ks : Nat → ClassId) (al : Bool), EV (D, ks, ad, A, al) s := by
  obtain ⟨aK, aV, hS, hR, hZ, hI, hT⟩ := ev_start htb h hM hA
  refine ⟨fun j => if j < 2000 then aK (j - 1000) else aV (j - 2000), fun D ks al _ => ?_⟩
  have e1 : ∀ k : Nat, k < 4 → (if 1000 + k < 2000 then aK (1000 + k - 1000) else aV (1000 + k - 2000)) = aK k := fun k hk => by rw [if_pos (by omega), Nat.add_sub_cancel_left]
  have e2 : ∀ k : Nat, (if 2000 + k < 2000 then aK (2000 + k - 1000) else aV (2000 + k - 2000)) = aV k := fun k => by rw [if_neg (by omega), Nat.add_sub_cancel_left]
  refine ⟨⟨fun i hi => ?_, fun i j hi hj e => ?_⟩, fun k hk => ?_, hZ, hI, hT⟩
  · have h1 := hS.1 i hi
    rw [← e1 i hi, ← e2 i] at h1
    exact h1
  · refine hS.2 i j hi hj ?_
    rw [← e1 i hi, ← e1 j hj]
    exact e
  · have h1 := hR k hk
    rw [← e1 k hk] at h1
    exact h1
def lw_P (b : Addr) (xs : List Int32) (args : Array Value) (s : State) : Prop := args = #[.ref b] ∧ s.IntsAt b xs ∧ xs.length ≤ 384 ∧ (Jvm.Cond.and given_1 narrow_1).before args s = true ∧ MR s
def lw_Q (_ : Array Value) (s : State) (o : Outcome) (t : State) : Prop := o = .returned (some (.int 1)) ∧ Framed s o t [] 603072 7262314
def lw_Z (below : List Frame) (a : Array Value) (s : State) : State → Prop := fun t => ∃ o, t.status = .running ∧ Ended t below o ∧ lw_Q a s o t
theorem lw_ret {p : Program} {l : Launch} {e : Env} {s : State} {m : MethodId} {below : List Frame} {meth : Method} {c : Code} {b : Nat} (hx : p.tables.exec = Jvm.exec) (hb : c.code = code) (hr : meth.sig.returnType = ret) (hlocks : meth.locks = false) {pc : Nat} {H : Heap} {ls : Array Slot} (hdg : decode code pc = .ok (.ireturn, 1)) : W p l e room_1 s m #[Value.ref b] below meth c H [] 603072 7262314 (lw_Z below #[Value.ref b] s) (F0 m pc ls [.int 1]) := by
  intro T hT X
  obtain ⟨fs, hret, hrun, hended, hW, hframe⟩ := X.leave (v := some (.int 1)) (hlocks := hlocks) (fun h => by rw [hr] at h; cases h)
  have hmeth' : T.vm.method? m = some meth := X.method'
  refine ⟨T.setFrames fs, ?_, .returned (some (.int 1)), hrun, hended, rfl, ⟨_, rfl⟩, hW, hframe⟩
  jvm_step X.here [X.here.top, hx, hb, hdg, hmeth', hr, ret, narrow_b1]
  (try refine ⟨rfl, ?_⟩); (try refine ⟨rfl, ?_⟩)
  first | (intro acts; rw [hret _ acts rfl rfl rfl]) | rw [hret _ _ rfl rfl rfl]
  exact Steps.refl _
def lw_At (p : Program) (s : State) (m : MethodId) (meth : Method) (c : Code) (b L : Nat) (xs : Nat → Int32) : Prop :=
  p.tables.exec = Jvm.exec ∧ c.code = code ∧ meth.sig.returnType = ret ∧ c.maxLocals = 4 ∧ s.vm.findClass R_law = some m.cls ∧ (∀ w ∈ lw_tbl, w.before #[Value.ref b] s = true) ∧ va_X b L xs s s.heap ∧ b < s.heap.size ∧ meth.locks = false ∧ (Jvm.Cond.and given_1 narrow_1).before #[Value.ref b] s = true
section LWS
variable {p : Program} {l : Launch} {e : Env} {s : State} {m : MethodId} {below : List Frame} {meth : Method} {c : Code} {b L : Nat} {xs : Nat → Int32} {GC G2 : GT} {RR : ST → ST → Prop}
theorem lw_loop (K : LC p s m c b L xs GC G2) (hlt : l.stackTraces = false) (hsm : ∀ a0 b0 a1 b1 : ST, RR a0 b0 → sm a1 a0 → sm b1 b0 → RR a1 b1) (hops : OPS RR (GC.2.2.1 0) GC.2.1) (hr : meth.sig.returnType = ret) (hlk : meth.locks = false) (hL : L ≤ 384) : ∀ (n j : Nat) (σC σT : ST) (H : Heap) (ls : Array Slot), j + n = 65 → PS cp_ft GC s σC H [] → PS tw_ft G2 s σT H [] → RR σC σT → lv_has ls 4 [(0, .ref b), (1, .ref (GC.2.2.1 0)), (2, .ref (G2.2.2.1 0)), (3, .int (nI (6 * j)))] → W p l e room_1 s m #[Value.ref b] below meth c H [] (1000 + 9000 * j) (20000 + 110000 * j) (lw_Z below #[Value.ref b] s) (F0 m 18 ls []) := by
  have hx := K.1.1.1
  have hb := K.1.1.2.1
  have hsx := K.2.2.1
  have hbl := K.2.2.2.1
  have hbA : ¬ GC.2.2.2.1 b := fun q => absurd (K.2.2.2.2.1 b q) (Nat.not_le.mpr hbl)
  intro n
  induction n with
  | zero =>
    intro j σC σT H ls hj hC hT hR hl
    refine lv_iload_n hx hb dL_law_18 rfl (lv_at hl 3 rfl) ?_
    refine lv_aload_n hx hb dL_law_19 rfl (lv_at hl 0 rfl) ?_
    refine va_slen hx hb hsx hbl hbA hC.2 dL_law_20 ?_
    refine lv_bipush (v := (6 : Int32)) hx hb dL_law_21 (by decide) ?_
    refine lv_isub hx hb dL_law_23 ?_
    refine lv_icmp_gt (tgt := 1199) hx hb dL_law_24 (by decide) (fun c0 => ?_) (fun c0 => ?_)
    · refine lv_iconst (v := (1 : Int32)) hx hb dL_law_1199 (by decide) ?_
      exact W.widen (by omega) (by omega) (lw_ret hx hb hr hlk dL_law_1200)
    · have := lw_j hL (by omega) c0
      omega
  | succ n ih =>
    intro j σC σT H ls hj hC hT hR hl
    refine lv_iload_n hx hb dL_law_18 rfl (lv_at hl 3 rfl) ?_
    refine lv_aload_n hx hb dL_law_19 rfl (lv_at hl 0 rfl) ?_
    refine va_slen hx hb hsx hbl hbA hC.2 dL_law_20 ?_
    refine lv_bipush (v := (6 : Int32)) hx hb dL_law_21 (by decide) ?_
    refine lv_isub hx hb dL_law_23 ?_
    refine lv_icmp_gt (tgt := 1199) hx hb dL_law_24 (by decide) (fun c0 => ?_) (fun c0 => ?_)
    · refine lv_iconst (v := (1 : Int32)) hx hb dL_law_1199 (by decide) ?_
      exact W.widen (by omega) (by omega) (lw_ret hx hb hr hlk dL_law_1200)
    · have h6 := lw_j hL (by omega) c0
      refine lw_body K hlt hsm hops hC hT hR (lw_pl hL h6) hl ⟨by show _ ≤ 603072; omega, by show _ ≤ 7262314; omega⟩ (fun uC uT H1 hC1 hT1 hR1 => ?_)
      refine lv_iinc (v := (nI (6 * j) + (6 : Int32))) (lv' := [(3, .int (nI (6 * j) + (6 : Int32))), (0, .ref b), (1, .ref (GC.2.2.1 0)), (2, .ref (G2.2.2.1 0))]) hx hb dL_law_1193 hl (k := 3) rfl rfl (by decide) rfl (fun ls hl => ?_)
      refine lv_goto (tgt := 18) hx hb dL_law_1196 (by decide) ?_
      have e6 : nI (6 * j) + (6 : Int32) = nI (6 * (j + 1)) := nI_add (6 * j) 6
      rw [e6] at hl
      exact W.widen (by omega) (by omega) (ih (j + 1) uC uT H1 ls (by omega) hC1 hT1 hR1 (lv_sub hl [1, 2, 3, 0] rfl))
set_option maxHeartbeats 4000000 in
theorem lw_whole (hlt : l.stackTraces = false) (hsm : ∀ a0 b0 a1 b1 : ST, RR a0 b0 → sm a1 a0 → sm b1 b0 → RR a1 b1) (hini : ∀ z w z2 w2 : Nat, RR (cp_s0 z w) (tw_s0 z2 w2)) (hops : ∀ (x0 : Nat) (ks : Nat → ClassId), OPS RR x0 ks) (hL : L ≤ 384) (C0 : lw_At p s m meth c b L xs) (hM : MR s) : W p l e room_1 s m #[Value.ref b] below meth c s.heap [] 0 0 (lw_Z below #[Value.ref b] s) (entryFrame m ([Value.ref b] : List Value).toArray 4) := by
  obtain ⟨hx, hb, hr, hml, hown, htb, hX, hbl, hlk, hgv⟩ := C0
  have hts : ∀ w ∈ lw_all, w.before #[Value.ref b] s = true := fun w h => htb w (lw_all_tbl h)
  have hN : NW s := fun w hw hi => by
    have h1 := htb w hw
    cases w <;> first | exact va_Nw.of rfl h1 | (rename_i t; cases t <;> first | exact va_AO.of h1 | (simp [isN] at hi)) | (simp [isN] at hi)
  obtain ⟨D, ks, hK⟩ := lk_start hts hN
  obtain ⟨ad0, hE0⟩ := ev_ad (A := fun q => s.heap.size ≤ q) htb hgv hM (fun a h1 h2 => absurd h2 (Nat.not_le.mpr h1))
  have X0 : CX (D, ks, ad0, (fun q => s.heap.size ≤ q), true) p m c cL_law 4 s #[Value.ref b] R_law := ⟨⟨hx, hb, hml, hown, hts⟩, hK _ _ _, hN, hE0 D ks true⟩
  have hl := lv_entry ([.ref b] : List Value) (n := 4) (Nat.le_of_ble_eq_true rfl)
  rw [lg_entry_eq]
  generalize (lg_sl ([Value.ref b] : List Value) ++ List.replicate (4 - (lg_sl ([Value.ref b] : List Value)).length) Slot.unset).toArray = ls at hl ⊢
  have hl : lv_has ls 4 [(0, .ref b)] := hl
  have hP : PS ([] : List FC) (D, ks, ad0, (fun q => s.heap.size ≤ q), true) s ((fun _ _ _ => 0, fun _ _ _ => 0, fun _ _ _ => none, fun _ => none, s.heap.size, tot s.heap) : ST) s.heap [] := ⟨⟨fun j c hj => by simp at hj, fun i j hi => by simp at hi, fun a e ha => (by cases ha), fun _ => ⟨rfl, rfl, fun q hq => hq⟩⟩, va_S.rf⟩
  refine r_new X0 rfl hP 0 lk_0 tyX0 tyX0_ok (fs := [.null, .null, .null, .int 0, .int 0, .int 0, .int 0, .int 0, .int 0, .null, .int 0, .int 0, .null, .int 0, .null, .null, .null, .null, .null, .null, .null, .null, .int 0, .int 0, .int 0, .int 0, .int 0, .int 0, .int 0, .int 0, .null, .null, .int 0, .null]) rfl q157 q158 q110 (by decide) (by decide) dL_law_0 (fun σ1 H e1 hP => ?_)
  refine lv_dup hx hb dL_law_3 rfl ?_
  have i1 : cp_init ks σ1 s.heap.size = some (fil ((fun _ _ _ => 0, fun _ _ _ => 0, fun _ _ _ => none, fun _ => none, s.heap.size, tot s.heap) : ST) s.heap.size (cp_L ks s.heap.size) (tot s.heap + 34 + 3493)) := by
    rw [e1, fil_new]
    exact cp_init_eq ks _ _ _
  refine r_callvM (r_runI (As := []) (rest := [.ref s.heap.size]) X0 hP (mt_X0_init l (D, ks, ad0, (fun q => s.heap.size ≤ q), true) rfl σ1 s.heap.size i1) (cwI 0 hts (lw_meth q161) rfl rfl rfl (hts _ q110) (hts _ q159) (hts _ q160) rfl cdX0_init ⟨Nat.le_of_ble_eq_true rfl, Nat.le_of_ble_eq_true rfl⟩) rfl hl.1 rfl (Nat.le_of_ble_eq_true rfl) dL_law_4 ⟨by decide, by decide⟩) hP (fun H locs hP => ?_)
  refine lv_astore_n (lv' := [(1, .ref s.heap.size), (0, .ref b)]) hx hb dL_law_7 rfl hl (by decide) rfl (fun ls hl => ?_)
  refine va_forget (fun q hq => hP.2.2.2 q hq) ?_
  have hz1 : H.size = s.heap.size + 49 := (hP.1.2.2.2 rfl).1
  have hC0 : Pic cp_ft (cp_G (D, ks, ad0, (fun q => s.heap.size ≤ q), true) s.heap.size (fun q => s.heap.size ≤ q) true) (cp_s0 (s.heap.size + 49) (tot s.heap + 34 + 3493)) H := cp_pic0 rfl hP.1 (fun q h1 _ => h1) (fun _ q h1 => Nat.le_trans (Nat.le_add_right _ _) h1)
  have hC1 : PS cp_ft (cp_G (D, ks, ad0, (fun q => s.heap.size ≤ q), true) s.heap.size (fun q => s.heap.size ≤ q) true) s (cp_s0 (s.heap.size + 49) (tot s.heap + 34 + 3493)) H [] := ⟨hC0, hP.2.1, hP.2.2.1, fun q h => by cases h⟩
  have X1 : CX (cp_G (D, ks, ad0, (fun q => s.heap.size ≤ q), true) s.heap.size (fun q => s.heap.size ≤ q) true) p m c cL_law 4 s #[Value.ref b] R_law := ⟨⟨hx, hb, hml, hown, hts⟩, hK _ _ _, hN, (hE0 D ks true).cpG⟩
  refine W.widen (k := 100) (n := 4000) (by decide) (by decide) ?_
  refine r_new X1 rfl hC1 3 lk_3 tyX3 tyX3_ok (fs := [.null, .null, .null, .null, .int 0, .int 0, .int 0, .null, .int 0, .int 0, .null, .null, .null, .int 0, .int 0, .int 0, .null, .int 0, .null, .int 0, .int 0, .int 0, .int 0, .int 0, .int 0, .null, .int 0, .int 0, .int 0, .int 0, .int 0, .int 0, .null, .null, .null, .null, .null, .null, .null, .null, .null, .null, .null, .null, .null, .null, .int 0, .int 0, .int 0, .int 0, .null, .null, .null, .null, .null, .null, .null, .null, .null, .null, .null, .null, .null, .int 0, .int 0, .int 0, .int 0, .null, .null, .int 0, .int 0, .int 0, .null, .null, .null, .null]) rfl q1632 q1633 q113 (by decide) (by decide) dL_law_8 (fun σ2 H2 e2 hP2 => ?_)
  refine lv_dup hx hb dL_law_11 rfl ?_
  have i2 : tw_init ks σ2 (s.heap.size + 49) = some (fil (cp_s0 (s.heap.size + 49) (tot s.heap + 34 + 3493)) (s.heap.size + 49) (tw_L ks (s.heap.size + 49)) (tot s.heap + 34 + 3493 + 76 + 3940)) := by
    rw [e2, fil_new]
    exact tw_init_eq ks _ _ _
  refine r_callvM (r_runI (As := []) (rest := [.ref (s.heap.size + 49)]) X1 hP2 (mt_X3_init_F l (cp_G (D, ks, ad0, (fun q => s.heap.size ≤ q), true) s.heap.size (fun q => s.heap.size ≤ q) true) rfl σ2 (s.heap.size + 49) i2) (cwI 0 hts (lw_meth q1636) rfl rfl rfl (hts _ q113) (hts _ q1634) (hts _ q1635) rfl cdX3_init ⟨Nat.le_of_ble_eq_true rfl, Nat.le_of_ble_eq_true rfl⟩) rfl hl.1 rfl (Nat.le_of_ble_eq_true rfl) dL_law_12 ⟨by decide, by decide⟩) hP2 (fun H3 locs3 hP3 => ?_)
  refine lv_astore_n (lv' := [(2, .ref (s.heap.size + 49)), (1, .ref s.heap.size), (0, .ref b)]) hx hb dL_law_15 rfl hl (by decide) rfl (fun ls hl => ?_)
  refine va_forget (fun q hq => hP3.2.2.2 q hq) ?_
  refine lv_iconst (v := (0 : Int32)) hx hb dL_law_16 (by decide) ?_
  refine lv_istore_n (lv' := [(3, .int (0 : Int32)), (2, .ref (s.heap.size + 49)), (1, .ref s.heap.size), (0, .ref b)]) hx hb dL_law_17 rfl hl (by decide) rfl (fun ls hl => ?_)
  have hz3 : H3.size = s.heap.size + 49 + 45 := (hP3.1.2.2.2 rfl).1
  have hT4 : Pic tw_ft (tw_G (cp_G (D, ks, ad0, (fun q => s.heap.size ≤ q), true) s.heap.size (fun q => s.heap.size ≤ q) true) (s.heap.size + 49) (fun q => s.heap.size + 49 ≤ q ∧ q < s.heap.size + 49 + 45) false) (tw_s0 (s.heap.size + 49 + 45) (tot s.heap + 34 + 3493 + 76 + 3940)) H3 := tw_pic0 rfl hP3.1.noft (fun q h1 h2 => ⟨h1, h2⟩) (fun h => by cases h)
  have hC4 : Pic cp_ft (cp_G (D, ks, ad0, (fun q => s.heap.size ≤ q), true) s.heap.size (fun q => (s.heap.size ≤ q ∧ q < s.heap.size + 49) ∨ s.heap.size + 49 + 45 ≤ q) true) (cp_s0 H3.size (tot H3)) H3 := by
    refine cp_alone_ (σ := cp_s0 0 0) hP3.1 (fun q h1 h2 => Or.inl ⟨h1, h2⟩) (fun q h1 => Or.inr ?_)
    rw [← hz3]
    exact h1
  have K : LC p s m c b L xs (cp_G (D, ks, ad0, (fun q => s.heap.size ≤ q), true) s.heap.size (fun q => (s.heap.size ≤ q ∧ q < s.heap.size + 49) ∨ s.heap.size + 49 + 45 ≤ q) true) (tw_G (cp_G (D, ks, ad0, (fun q => s.heap.size ≤ q), true) s.heap.size (fun q => s.heap.size ≤ q) true) (s.heap.size + 49) (fun q => s.heap.size + 49 ≤ q ∧ q < s.heap.size + 49 + 45) false) := ⟨⟨⟨hx, hb, hml, hown, hts⟩, hK _ _ _, hN, ((hE0 D ks true).mono (fun q h => by show _ ≤ q; omega)).cpG⟩, ⟨⟨hx, hb, hml, hown, hts⟩, hK _ _ _, hN, fun h => by cases h⟩, hX, hbl, fun q h => by show _ ≤ q; have : (_ ∧ _) ∨ _ := h; omega, fun q h => by have : _ ∧ _ := h; omega, fun q h1 h2 => by have : _ ∧ _ := h1; have : (_ ∧ _) ∨ _ := h2; omega, rfl⟩
  have hS4 : ∀ q : Nat, q < s.heap.size → H3[q]? = s.heap[q]? := fun q h1 => hP3.2.2.1 q h1 (Nat.not_le.mpr h1)
  refine W.widen (k := 1000 + 9000 * 0) (n := 20000 + 110000 * 0) (by decide) (by decide) ?_
  exact lw_loop K hlt hsm (hops _ _) hr hlk hL 65 0 _ _ H3 ls rfl ⟨hC4, hP3.2.1, fun q h1 _ => hS4 q h1, fun q h => by cases h⟩ ⟨hT4, hP3.2.1, fun q h1 _ => hS4 q h1, fun q h => by cases h⟩ (hini _ _ _ _) (lv_sub hl [3, 2, 1, 0] rfl)
end LWS
