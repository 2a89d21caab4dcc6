set_option maxRecDepth 100000
/-! WHAT HOLDS AT THE START: the tables, the strings, the statics, what isn't castable. -/
theorem zsT_of {n d : String} {args : Array Value} {s : State} {A : Nat → Prop} (h1 : (Cond.laysStatic "java/lang/Throwable" n d).before args s = true) (h2 : (Cond.isRef (.static "java/lang/Throwable" n d)).before args s = true) (hA : ∀ a : Nat, a < s.heap.size → ¬ A a) : zsT n d A s s.heap := by
  obtain ⟨c, k, i, f, a, cell, hc, hi, hst, ha, hcell, hs, hcls, hlt, hty⟩ := Cond.laysStatic_spec h1
  obtain ⟨v, hv, hr⟩ := Cond.isRef_spec h2
  obtain ⟨-, a', cell', ha', hcell', -, hslot⟩ := Term.static_spec hi hv
  cases ha.symm.trans ha'
  cases hcell.symm.trans hcell'
  refine ⟨c, k, i, f, a, cell, hc, hi, hst, ha, hcell, hs, hcls, hlt, hty, ?_, hA a (Array.getElem?_eq_some_iff.mp hcell).1⟩
  cases v <;> first | exact ⟨none, hslot⟩ | exact ⟨some _, hslot⟩ | (cases hr)
theorem arr_p {ty : FieldType} {args : Array Value} {s : State} (h : (Cond.arrayClass ty).before args s = true) (hR : ∀ cA, s.vm.findClass ("[" ++ ty.toString) = some cA → va_RA s cA ty) : ∃ cA, ArrOfT s cA ty ∧ va_RA s cA ty := by
  obtain ⟨c, k, comp, h1, h2, h3⟩ := Cond.arrayClass_spec h
  exact ⟨c, fun N z => ⟨(fun k h => by cases h), k, h2, comp, h3⟩, hR c h1⟩
theorem arr_o {C : String} {s : State} (h : va_AO C s) : ∃ cA, ArrOfT s cA (.object C) ∧ va_RA s cA (.object C) := by
  obtain ⟨comp, c, k, h1, -, h2, h3, h4⟩ := Cond.arrayOver_spec h
  exact ⟨c, fun N z => ⟨(fun k h => by cases h), k, h2, comp, h3⟩, k, comp, h2, h3, h1, h4⟩
theorem lk_kn {args : Array Value} {s : State} (hts : ∀ w ∈ lw_all, w.before args s = true) : ∀ ci : Nat, ∃ q : ClassId × (Nat → Nat), ∀ r, lk_cl[ci]? = some r → u_Kn s r.1 r.2.1 r.2.2 q.1 q.2 := by
  intro ci
  match ci with
  | 0 =>
    obtain ⟨c0, i0, h⟩ := u_known hts (lk_ok 0 _ _ _ lk_0).1 (hts _ q158)
    exact ⟨(c0, i0), fun r hr => by obtain rfl := Option.some.inj (lk_0.symm.trans hr); exact h⟩
  | 1 =>
    obtain ⟨c0, i0, h⟩ := u_known hts (lk_ok 1 _ _ _ lk_1).1 (hts _ q174)
    exact ⟨(c0, i0), fun r hr => by obtain rfl := Option.some.inj (lk_1.symm.trans hr); exact h⟩
  | 2 =>
    obtain ⟨c0, i0, h⟩ := u_known hts (lk_ok 2 _ _ _ lk_2).1 (hts _ q188)
    exact ⟨(c0, i0), fun r hr => by obtain rfl := Option.some.inj (lk_2.symm.trans hr); exact h⟩
  | 3 =>
    obtain ⟨c0, i0, h⟩ := u_known hts (lk_ok 3 _ _ _ lk_3).1 (hts _ q1633)
    exact ⟨(c0, i0), fun r hr => by obtain rfl := Option.some.inj (lk_3.symm.trans hr); exact h⟩
  | 4 =>
    obtain ⟨c0, i0, h⟩ := u_known hts (lk_ok 4 _ _ _ lk_4).1 (hts _ q399)
    exact ⟨(c0, i0), fun r hr => by obtain rfl := Option.some.inj (lk_4.symm.trans hr); exact h⟩
  | 5 =>
    obtain ⟨c0, i0, h⟩ := u_known hts (lk_ok 5 _ _ _ lk_5).1 (hts _ q429)
    exact ⟨(c0, i0), fun r hr => by obtain rfl := Option.some.inj (lk_5.symm.trans hr); exact h⟩
  | 6 =>
    obtain ⟨c0, i0, h⟩ := u_known hts (lk_ok 6 _ _ _ lk_6).1 (hts _ q460)
    exact ⟨(c0, i0), fun r hr => by obtain rfl := Option.some.inj (lk_6.symm.trans hr); exact h⟩
  | 7 =>
    obtain ⟨c0, i0, h⟩ := u_known hts (lk_ok 7 _ _ _ lk_7).1 (hts _ q684)
    exact ⟨(c0, i0), fun r hr => by obtain rfl := Option.some.inj (lk_7.symm.trans hr); exact h⟩
  | 8 =>
    obtain ⟨c0, i0, h⟩ := u_known hts (lk_ok 8 _ _ _ lk_8).1 (hts _ q712)
    exact ⟨(c0, i0), fun r hr => by obtain rfl := Option.some.inj (lk_8.symm.trans hr); exact h⟩
  | 9 =>
    obtain ⟨c0, i0, h⟩ := u_known hts (lk_ok 9 _ _ _ lk_9).1 (hts _ q850)
    exact ⟨(c0, i0), fun r hr => by obtain rfl := Option.some.inj (lk_9.symm.trans hr); exact h⟩
  | 10 =>
    obtain ⟨c0, i0, h⟩ := u_known hts (lk_ok 10 _ _ _ lk_10).1 (hts _ q871)
    exact ⟨(c0, i0), fun r hr => by obtain rfl := Option.some.inj (lk_10.symm.trans hr); exact h⟩
  | 11 =>
    obtain ⟨c0, i0, h⟩ := u_known hts (lk_ok 11 _ _ _ lk_11).1 (hts _ q881)
    exact ⟨(c0, i0), fun r hr => by obtain rfl := Option.some.inj (lk_11.symm.trans hr); exact h⟩
  | 12 =>
    obtain ⟨c0, i0, h⟩ := u_known hts (lk_ok 12 _ _ _ lk_12).1 (hts _ q892)
    exact ⟨(c0, i0), fun r hr => by obtain rfl := Option.some.inj (lk_12.symm.trans hr); exact h⟩
  | 13 =>
    obtain ⟨c0, i0, h⟩ := u_known hts (lk_ok 13 _ _ _ lk_13).1 (hts _ q907)
    exact ⟨(c0, i0), fun r hr => by obtain rfl := Option.some.inj (lk_13.symm.trans hr); exact h⟩
  | 14 =>
    obtain ⟨c0, i0, h⟩ := u_known hts (lk_ok 14 _ _ _ lk_14).1 (hts _ q653)
    exact ⟨(c0, i0), fun r hr => by obtain rfl := Option.some.inj (lk_14.symm.trans hr); exact h⟩
  | 15 =>
    obtain ⟨c0, i0, h⟩ := u_known hts (lk_ok 15 _ _ _ lk_15).1 (hts _ q1446)
    exact ⟨(c0, i0), fun r hr => by obtain rfl := Option.some.inj (lk_15.symm.trans hr); exact h⟩
  | 16 =>
    obtain ⟨c0, i0, h⟩ := u_known hts (lk_ok 16 _ _ _ lk_16).1 (hts _ q1458)
    exact ⟨(c0, i0), fun r hr => by obtain rfl := Option.some.inj (lk_16.symm.trans hr); exact h⟩
  | 17 =>
    obtain ⟨c0, i0, h⟩ := u_known hts (lk_ok 17 _ _ _ lk_17).1 (hts _ q1469)
    exact ⟨(c0, i0), fun r hr => by obtain rfl := Option.some.inj (lk_17.symm.trans hr); exact h⟩
  | 18 =>
    obtain ⟨c0, i0, h⟩ := u_known hts (lk_ok 18 _ _ _ lk_18).1 (hts _ q1479)
    exact ⟨(c0, i0), fun r hr => by obtain rfl := Option.some.inj (lk_18.symm.trans hr); exact h⟩
  | 19 =>
    obtain ⟨c0, i0, h⟩ := u_known hts (lk_ok 19 _ _ _ lk_19).1 (hts _ q1490)
    exact ⟨(c0, i0), fun r hr => by obtain rfl := Option.some.inj (lk_19.symm.trans hr); exact h⟩
  | 20 =>
    obtain ⟨c0, i0, h⟩ := u_known hts (lk_ok 20 _ _ _ lk_20).1 (hts _ q1266)
    exact ⟨(c0, i0), fun r hr => by obtain rfl := Option.some.inj (lk_20.symm.trans hr); exact h⟩
  | 21 =>
    obtain ⟨c0, i0, h⟩ := u_known hts (lk_ok 21 _ _ _ lk_21).1 (hts _ q1169)
    exact ⟨(c0, i0), fun r hr => by obtain rfl := Option.some.inj (lk_21.symm.trans hr); exact h⟩
  | 22 =>
    obtain ⟨c0, i0, h⟩ := u_known hts (lk_ok 22 _ _ _ lk_22).1 (hts _ q1191)
    exact ⟨(c0, i0), fun r hr => by obtain rfl := Option.some.inj (lk_22.symm.trans hr); exact h⟩
  | 23 =>
    obtain ⟨c0, i0, h⟩ := u_known hts (lk_ok 23 _ _ _ lk_23).1 (hts _ q1203)
    exact ⟨(c0, i0), fun r hr => by obtain rfl := Option.some.inj (lk_23.symm.trans hr); exact h⟩
  | 24 =>
    obtain ⟨c0, i0, h⟩ := u_known hts (lk_ok 24 _ _ _ lk_24).1 (hts _ q1216)
    exact ⟨(c0, i0), fun r hr => by obtain rfl := Option.some.inj (lk_24.symm.trans hr); exact h⟩
  | 25 =>
    obtain ⟨c0, i0, h⟩ := u_known hts (lk_ok 25 _ _ _ lk_25).1 (hts _ q1228)
    exact ⟨(c0, i0), fun r hr => by obtain rfl := Option.some.inj (lk_25.symm.trans hr); exact h⟩
  | 26 =>
    obtain ⟨c0, i0, h⟩ := u_known hts (lk_ok 26 _ _ _ lk_26).1 (hts _ q1242)
    exact ⟨(c0, i0), fun r hr => by obtain rfl := Option.some.inj (lk_26.symm.trans hr); exact h⟩
  | 27 =>
    obtain ⟨c0, i0, h⟩ := u_known hts (lk_ok 27 _ _ _ lk_27).1 (hts _ q1254)
    exact ⟨(c0, i0), fun r hr => by obtain rfl := Option.some.inj (lk_27.symm.trans hr); exact h⟩
  | ci + 28 => exact ⟨(0, fun _ => 0), fun r hr => by simp at hr⟩
theorem lk_ar {args : Array Value} {s : State} (hts : ∀ w ∈ lw_all, w.before args s = true) (hN : NW s) : ∀ t : Nat, ∃ cA : ClassId, ∀ ty, ([.int, .byte, .long, .object RX4, .object RX5, .object RX6, .object RX15, .object RX17, .object RX16, .short, .boolean] : List FieldType)[t]? = some ty → ArrOfT s cA ty ∧ va_RA s cA ty := by
  intro t
  match t with
  | 0 =>
    obtain ⟨cA, h⟩ := arr_p (hts _ q186) (fun _ h => h)
    exact ⟨cA, fun ty hty => by cases hty; exact h⟩
  | 1 =>
    obtain ⟨cA, h⟩ := arr_p (hts _ q185) (fun _ h => h)
    exact ⟨cA, fun ty hty => by cases hty; exact h⟩
  | 2 =>
    obtain ⟨cA, h⟩ := arr_p (hts _ q1488) (fun _ h => h)
    exact ⟨cA, fun ty hty => by cases hty; exact h⟩
  | 3 =>
    obtain ⟨cA, h⟩ := arr_o (hN _ q166 rfl)
    exact ⟨cA, fun ty hty => by cases hty; exact h⟩
  | 4 =>
    obtain ⟨cA, h⟩ := arr_o (hN _ q168 rfl)
    exact ⟨cA, fun ty hty => by cases hty; exact h⟩
  | 5 =>
    obtain ⟨cA, h⟩ := arr_o (hN _ q170 rfl)
    exact ⟨cA, fun ty hty => by cases hty; exact h⟩
  | 6 =>
    obtain ⟨cA, h⟩ := arr_o (hN _ q172 rfl)
    exact ⟨cA, fun ty hty => by cases hty; exact h⟩
  | 7 =>
    obtain ⟨cA, h⟩ := arr_o (hN _ q277 rfl)
    exact ⟨cA, fun ty hty => by cases hty; exact h⟩
  | 8 =>
    obtain ⟨cA, h⟩ := arr_o (hN _ q279 rfl)
    exact ⟨cA, fun ty hty => by cases hty; exact h⟩
  | 9 =>
    obtain ⟨cA, h⟩ := arr_p (hts _ q1467) (fun _ h => h)
    exact ⟨cA, fun ty hty => by cases hty; exact h⟩
  | 10 =>
    obtain ⟨cA, h⟩ := arr_p (hts _ q1499) (fun _ h => h)
    exact ⟨cA, fun ty hty => by cases hty; exact h⟩
  | t + 11 => exact ⟨0, fun ty hty => by simp at hty⟩
theorem lk_start {args : Array Value} {s : State} (hts : ∀ w ∈ lw_all, w.before args s = true) (hN : NW s) : ∃ (D : va_G) (ks : Nat → ClassId), ∀ (ad : Nat → Nat) (A : Nat → Prop) (al : Bool), va_K D lk_cl (lk_tys (D, ks, ad, A, al)) s := by
  obtain ⟨f, hf⟩ := Classical.axiomOfChoice (lk_kn hts)
  obtain ⟨ks, hk⟩ := Classical.axiomOfChoice (lk_ar hts hN)
  refine ⟨(fun ci => (f ci).1, fun ci => (f ci).2), ks, fun ad A al => ⟨fun c q hq => hf c q hq, fun k q hq => ?_⟩⟩
  match k, hq with
  | 0, hq => cases hq; exact hk 0 _ rfl
  | 1, hq => cases hq; exact hk 1 _ rfl
  | 2, hq => cases hq; exact hk 2 _ rfl
  | 3, hq => cases hq; exact hk 3 _ rfl
  | 4, hq => cases hq; exact hk 4 _ rfl
  | 5, hq => cases hq; exact hk 5 _ rfl
  | 6, hq => cases hq; exact hk 6 _ rfl
  | 7, hq => cases hq; exact hk 7 _ rfl
  | 8, hq => cases hq; exact hk 8 _ rfl
  | 9, hq => cases hq; exact hk 9 _ rfl
  | 10, hq => cases hq; exact hk 10 _ rfl
  | k + 11, hq => simp at hq
theorem nc_start {args : Array Value} {s : State} (h : (Jvm.Cond.and given_1 narrow_1).before args s = true) : NCs s := by
  have hs := flat_of_before _ h
  intro q hq
  refine va_Nc.of (hs _ ?_)
  revert q
  decide +kernel
theorem ev_start {b : Nat} {s : State} {A : Nat → Prop} (htb : ∀ w ∈ lw_tbl, w.before #[Value.ref b] s = true) (h : (Jvm.Cond.and given_1 narrow_1).before #[Value.ref b] s = true) (hM : MR s) (hA : ∀ a : Nat, a < s.heap.size → ¬ A a) : ∃ adK adV : Nat → Nat, vk_S 4 sk_len sk_byt adK adV A s s.heap ∧ (∀ k, k < 4 → vk_R RX7 (sk_ix.getD k 0) (sk_tx.getD k "") (adK k) s) ∧ va_Z "java/lang/String" "COMPACT_STRINGS" "Z" (.int 1) A s s.heap ∧ IFs s ∧ TWs A s s.heap := by
  have hs := flat_of_before _ h
  obtain ⟨adK, adV, hS, hv⟩ := vk_Sof (args := #[Value.ref b]) (s := s) (N := 4) (tm := fun i => .string RX7 (sk_ix.getD i 0)) (len := sk_len) (byt := sk_byt) (A := A)
    (by intro i hi; match i, hi with | 0, _ => decide | 1, _ => decide | 2, _ => decide | 3, _ => decide)
    (fun i hi => by match i, hi with | 0, _ => exact hs _ (by decide +kernel) | 1, _ => exact hs _ (by decide +kernel) | 2, _ => exact hs _ (by decide +kernel) | 3, _ => exact hs _ (by decide +kernel))
    (fun i hi => by match i, hi with | 0, _ => exact hs _ (by decide +kernel) | 1, _ => exact hs _ (by decide +kernel) | 2, _ => exact hs _ (by decide +kernel) | 3, _ => exact hs _ (by decide +kernel))
    (fun i hi => by match i, hi with | 0, _ => exact hs _ (by decide +kernel) | 1, _ => exact hs _ (by decide +kernel) | 2, _ => exact hs _ (by decide +kernel) | 3, _ => exact hs _ (by decide +kernel))
    (fun i hi => by match i, hi with | 0, _ => exact hs _ (by decide +kernel) | 1, _ => exact hs _ (by decide +kernel) | 2, _ => exact hs _ (by decide +kernel) | 3, _ => exact hs _ (by decide +kernel))
    (fun i hi j hj => by
      match i, hi with
      | 0, _ => match j, hj with | 0, _ => exact hs _ (by decide +kernel) | 1, _ => exact hs _ (by decide +kernel) | 2, _ => exact hs _ (by decide +kernel) | 3, _ => exact hs _ (by decide +kernel) | 4, _ => exact hs _ (by decide +kernel) | 5, _ => exact hs _ (by decide +kernel) | 6, _ => exact hs _ (by decide +kernel) | 7, _ => exact hs _ (by decide +kernel) | j + 8, hj => exact absurd hj (by show ¬ j + 8 < 8; omega)
      | 1, _ => match j, hj with | 0, _ => exact hs _ (by decide +kernel) | 1, _ => exact hs _ (by decide +kernel) | 2, _ => exact hs _ (by decide +kernel) | j + 3, hj => exact absurd hj (by show ¬ j + 3 < 3; omega)
      | 2, _ => match j, hj with | 0, _ => exact hs _ (by decide +kernel) | 1, _ => exact hs _ (by decide +kernel) | j + 2, hj => exact absurd hj (by show ¬ j + 2 < 2; omega)
      | 3, _ => match j, hj with | 0, _ => exact hs _ (by decide +kernel) | 1, _ => exact hs _ (by decide +kernel) | 2, _ => exact hs _ (by decide +kernel) | j + 3, hj => exact absurd hj (by show ¬ j + 3 < 3; omega))
    (fun i j hi hj hne => by
      match i, j, hi, hj, hne with
      | 0, 0, _, _, hne => exact absurd rfl hne
      | 0, 1, _, _, _ => exact Or.inl (hs _ (by decide +kernel))
      | 0, 2, _, _, _ => exact Or.inl (hs _ (by decide +kernel))
      | 0, 3, _, _, _ => exact Or.inl (hs _ (by decide +kernel))
      | 1, 0, _, _, _ => exact Or.inr (hs _ (by decide +kernel))
      | 1, 1, _, _, hne => exact absurd rfl hne
      | 1, 2, _, _, _ => exact Or.inl (hs _ (by decide +kernel))
      | 1, 3, _, _, _ => exact Or.inl (hs _ (by decide +kernel))
      | 2, 0, _, _, _ => exact Or.inr (hs _ (by decide +kernel))
      | 2, 1, _, _, _ => exact Or.inr (hs _ (by decide +kernel))
      | 2, 2, _, _, hne => exact absurd rfl hne
      | 2, 3, _, _, _ => exact Or.inl (hs _ (by decide +kernel))
      | 3, 0, _, _, _ => exact Or.inr (hs _ (by decide +kernel))
      | 3, 1, _, _, _ => exact Or.inr (hs _ (by decide +kernel))
      | 3, 2, _, _, _ => exact Or.inr (hs _ (by decide +kernel))
      | 3, 3, _, _, hne => exact absurd rfl hne) hA
  refine ⟨adK, adV, hS, fun k hk => ?_, va_Zof (htb _ q776) (htb _ (lw_all_tbl q121)) (va_eqi (hs _ (by decide +kernel))) hA, ⟨⟨htb _ q1282, htb _ q1281⟩, htb _ q1327, htb _ q1326⟩, zsT_of (htb _ q499) (hs _ (by decide +kernel)) hA, zsT_of (htb _ q501) (hs _ (by decide +kernel)) hA, nc_start h, hM⟩
  have h2 := hv k hk
  match k, hk, h2 with
  | 0, _, h2 => exact vk_R.of (htb _ q758) h2
  | 1, _, h2 => exact vk_R.of (htb _ q901) h2
  | 2, _, h2 => exact vk_R.of (htb _ q922) h2
  | 3, _, h2 => exact vk_R.of (htb _ q923) h2
