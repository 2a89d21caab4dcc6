/-! THE BASE: one abstract state, one picture of the heap, a row an instruction over them. -/
/-- numbers, longs, references (each by object, field + 1 or 0, place), the pool of made objects, the heap's size, its slots -/
abbrev ST : Type := (Nat → Nat → Nat → Int32) × (Nat → Nat → Nat → Int64) × (Nat → Nat → Nat → Option Nat) × (Nat → Option va_E) × Nat × Nat
/-- the classes' numbers and slots, the array classes, the fixed cells' addresses, the cells that may change, whether cells may be made -/
abbrev GT : Type := va_G × (Nat → ClassId) × (Nat → Nat) × (Nat → Prop) × Bool
/-- a fixed cell: an array (object, field, length, type) or an object (object, class, its fields by kind) -/
abbrev FC : Type := (Nat × Nat × Nat × Nat) ⊕ (Nat × Nat × List (Nat × Nat))
def up3 {α : Type} (X : Nat → Nat → Nat → α) (o k i : Nat) (v : α) : Nat → Nat → Nat → α := fun o' k' i' => if o' = o ∧ k' = k ∧ i' = i then v else X o' k' i'
def gset (g : Nat → Option va_E) (a : Nat) (e : va_E) : Nat → Option va_E := fun b => if b = a then some e else g b
def fxv (G : GT) (σ : ST) (o f : Nat) (q : Nat × Nat) : Value := match q.1 with
  | 0 => .int (σ.1 o 0 f)
  | 1 => .ref (G.2.2.1 q.2)
  | _ => va_rf (σ.2.2.1 o 0 f)
def fxa (σ : ST) (o k t : Nat) : (Nat → Int32) ⊕ (Nat → Int64) ⊕ (Nat → UInt32) ⊕ (Nat → UInt64) ⊕ (Nat → Option Nat) := match t with
  | 0 => .inl (σ.1 o (k + 1))
  | 1 => .inl (σ.1 o (k + 1))
  | 2 => .inr (.inl (σ.2.1 o (k + 1)))
  | _ => .inr (.inr (.inr (.inr (σ.2.2.1 o (k + 1)))))
def fxe (G : GT) (σ : ST) (c : FC) : va_E := match c with
  | .inl q => .inl (G.2.1 q.2.2.2, q.2.2.1, fxa σ q.1 q.2.1 q.2.2.2)
  | .inr q => .inr (q.2.1, q.2.2.mapIdx (fun f x => fxv G σ q.1 f x))
/-- the classes of the system, by number -/
abbrev lk_cl : List vw_C := [(RX0, TX0, 34), (RX1, TX1, 1), (RX2, TX2, 22), (RX3, TX3, 76), (RX4, TX4, 4), (RX5, TX5, 2), (RX6, TX6, 3), (RX7, TX7, 4), (RX8, TX8, 3), (RX10, TX10, 1), (RX11, TX11, 1), (RX12, TX12, 1), (RX13, TX13, 1), (RX14, TX14, 3), (RX15, TX15, 4), (RX26, TX26, 1), (RX27, TX27, 1), (RX28, TX28, 1), (RX29, TX29, 1), (RX30, TX30, 1), (RX17, TX17, 2), (RX18, TX18, 3), (RX19, TX19, 3), (RX20, TX20, 4), (RX21, TX21, 3), (RX22, TX22, 5), (RX23, TX23, 3), (RX24, TX24, 4)]
/-- the array classes, by number -/
abbrev lk_tys (G : GT) : List (ClassId × FieldType) := [(G.2.1 0, .int), (G.2.1 1, .byte), (G.2.1 2, .long), (G.2.1 3, .object RX4), (G.2.1 4, .object RX5), (G.2.1 5, .object RX6), (G.2.1 6, .object RX15), (G.2.1 7, .object RX17), (G.2.1 8, .object RX16), (G.2.1 9, .short), (G.2.1 10, .boolean)]
/-- two fields of a class are apart: by their names, or (final ones) by their declarers -/
def ff_ap (x y : String × String × String × Bool) : Bool := x.2.1 != y.2.1 || (x.2.2.2 && y.2.2.2 && x.1 != y.1)
theorem ff_ap_ex {x y : String × String × String × Bool} (h : ff_ap x y = true) : x.2.1 ≠ y.2.1 ∨ (x.2.2.2 = true ∧ y.2.2.2 = true ∧ x.1 ≠ y.1) := by
  simp only [ff_ap, Bool.or_eq_true, Bool.and_eq_true, bne_iff_ne] at h
  rcases h with h | ⟨⟨h1, h2⟩, h3⟩
  · exact Or.inl h
  · exact Or.inr ⟨h1, h2, h3⟩
theorem ff_nm {T : u_T} {N : Nat} (h : ∀ a, a < N → ∀ b, b < N → a ≠ b → (T a).2.1 ≠ (T b).2.1) : ∀ a, a < N → ∀ b, b < N → a ≠ b → ff_ap (T a) (T b) = true := fun a ha b hb hab => by simp [ff_ap, h a ha b hb hab]
theorem apX18 : ∀ a, a < 3 → ∀ b, b < 3 → a ≠ b → ff_ap (TX18 a) (TX18 b) = true := by decide +kernel
theorem apX19 : ∀ a, a < 3 → ∀ b, b < 3 → a ≠ b → ff_ap (TX19 a) (TX19 b) = true := by decide +kernel
theorem apX20 : ∀ a, a < 4 → ∀ b, b < 4 → a ≠ b → ff_ap (TX20 a) (TX20 b) = true := by decide +kernel
theorem apX21 : ∀ a, a < 3 → ∀ b, b < 3 → a ≠ b → ff_ap (TX21 a) (TX21 b) = true := by decide +kernel
theorem apX22 : ∀ a, a < 5 → ∀ b, b < 5 → a ≠ b → ff_ap (TX22 a) (TX22 b) = true := by decide +kernel
theorem apX23 : ∀ a, a < 3 → ∀ b, b < 3 → a ≠ b → ff_ap (TX23 a) (TX23 b) = true := by decide +kernel
theorem apX24 : ∀ a, a < 4 → ∀ b, b < 4 → a ≠ b → ff_ap (TX24 a) (TX24 b) = true := by decide +kernel
theorem lk_ok : ∀ (ci : Nat) (C : String) (T : u_T) (N : Nat), lk_cl[ci]? = some (C, T, N) → (∀ w ∈ u_ws C T N, w ∈ lw_all) ∧ (∃ ty : Nat → FieldType, ∀ k, k < N → parseFieldDescriptor (T k).2.2.1 = some (ty k)) ∧ (∀ a, a < N → ∀ b, b < N → a ≠ b → ff_ap (T a) (T b) = true) := by
  intro ci C T N h
  match ci, h with
  | 0, h => cases h; exact ⟨in_X0, ⟨_, tyX0_ok⟩, ff_nm nmX0⟩
  | 1, h => cases h; exact ⟨in_X1, ⟨_, tyX1_ok⟩, ff_nm nmX1⟩
  | 2, h => cases h; exact ⟨in_X2, ⟨_, tyX2_ok⟩, ff_nm nmX2⟩
  | 3, h => cases h; exact ⟨in_X3, ⟨_, tyX3_ok⟩, ff_nm nmX3⟩
  | 4, h => cases h; exact ⟨in_X4, ⟨_, tyX4_ok⟩, ff_nm nmX4⟩
  | 5, h => cases h; exact ⟨in_X5, ⟨_, tyX5_ok⟩, ff_nm nmX5⟩
  | 6, h => cases h; exact ⟨in_X6, ⟨_, tyX6_ok⟩, ff_nm nmX6⟩
  | 7, h => cases h; exact ⟨in_X7, ⟨_, tyX7_ok⟩, ff_nm nmX7⟩
  | 8, h => cases h; exact ⟨in_X8, ⟨_, tyX8_ok⟩, ff_nm nmX8⟩
  | 9, h => cases h; exact ⟨in_X10, ⟨_, tyX10_ok⟩, ff_nm nmX10⟩
  | 10, h => cases h; exact ⟨in_X11, ⟨_, tyX11_ok⟩, ff_nm nmX11⟩
  | 11, h => cases h; exact ⟨in_X12, ⟨_, tyX12_ok⟩, ff_nm nmX12⟩
  | 12, h => cases h; exact ⟨in_X13, ⟨_, tyX13_ok⟩, ff_nm nmX13⟩
  | 13, h => cases h; exact ⟨in_X14, ⟨_, tyX14_ok⟩, ff_nm nmX14⟩
  | 14, h => cases h; exact ⟨in_X15, ⟨_, tyX15_ok⟩, ff_nm nmX15⟩
  | 15, h => cases h; exact ⟨in_X26, ⟨_, tyX26_ok⟩, ff_nm nmX26⟩
  | 16, h => cases h; exact ⟨in_X27, ⟨_, tyX27_ok⟩, ff_nm nmX27⟩
  | 17, h => cases h; exact ⟨in_X28, ⟨_, tyX28_ok⟩, ff_nm nmX28⟩
  | 18, h => cases h; exact ⟨in_X29, ⟨_, tyX29_ok⟩, ff_nm nmX29⟩
  | 19, h => cases h; exact ⟨in_X30, ⟨_, tyX30_ok⟩, ff_nm nmX30⟩
  | 20, h => cases h; exact ⟨in_X17, ⟨_, tyX17_ok⟩, ff_nm nmX17⟩
  | 21, h => cases h; exact ⟨in_X18, ⟨_, tyX18_ok⟩, apX18⟩
  | 22, h => cases h; exact ⟨in_X19, ⟨_, tyX19_ok⟩, apX19⟩
  | 23, h => cases h; exact ⟨in_X20, ⟨_, tyX20_ok⟩, apX20⟩
  | 24, h => cases h; exact ⟨in_X21, ⟨_, tyX21_ok⟩, apX21⟩
  | 25, h => cases h; exact ⟨in_X22, ⟨_, tyX22_ok⟩, apX22⟩
  | 26, h => cases h; exact ⟨in_X23, ⟨_, tyX23_ok⟩, apX23⟩
  | 27, h => cases h; exact ⟨in_X24, ⟨_, tyX24_ok⟩, apX24⟩
  | ci + 28, h => simp at h
theorem ff_cls {s : State} {cls name desc : String} {c i : Nat} {k : Class} {f : Field} (h : s.fieldFound? cls name desc = some (c, k, i, f)) : s.vm.classes[c]? = some k := by
  simp only [State.fieldFound?, Option.bind_eq_bind, Option.bind_eq_some_iff, Option.pure_def, Option.some.injEq, Prod.mk.injEq] at h
  obtain ⟨_, _, _, _, ⟨c', i'⟩, _, k', hk, f', _, rfl, rfl, rfl, rfl⟩ := h
  exact hk
theorem fc_nm {vm : Vm} {name : String} {c : ClassId} {k : Class} (h : vm.findClass name = some c) (hk : vm.classes[c]? = some k) : k.name = name := by
  obtain ⟨hlt, hp, _⟩ := Array.findIdx?_eq_some_iff_getElem.mp h
  have : vm.classes[c] = k := by have := hk; simp [hlt] at this; exact this
  rw [this] at hp
  simp only [Bool.and_eq_true, beq_iff_eq, Option.isNone_iff_eq_none] at hp
  exact hp.1.1.1
theorem ff_own {args : Array Value} {s : State} {C O f d O' f' d' : String} (h : (Cond.laysFinal C O f d).before args s = true) (h' : (Cond.laysFinal C O' f' d').before args s = true) {cf kf fi fd cf' kf' fi' fd'} (hi : s.fieldFound? O f d = some (cf, kf, fi, fd)) (hi' : s.fieldFound? O' f' d' = some (cf', kf', fi', fd')) (hne : O ≠ O') : fd.slot ≠ fd'.slot := by
  obtain ⟨a, _, _, _, _, g, ha, _, hg, _, _, _, ho, _, dd, hd, hk, _, _⟩ := Cond.laysFinal_spec h
  cases hi.symm.trans hg
  obtain ⟨a', _, _, _, _, g', ha', _, hg', _, _, _, ho', _, dd', hd', hk', _, _⟩ := Cond.laysFinal_spec h'
  cases hi'.symm.trans hg'
  cases ha.symm.trans ha'
  intro hs
  rw [hs] at hd
  cases hd.symm.trans hd'
  exact hne ((fc_nm ho (ff_cls hi)).symm.trans (hk.symm.trans (hk'.trans (fc_nm ho' (ff_cls hi')))))
theorem lk_apart {D : va_G} {tys : List (ClassId × FieldType)} {s : State} {args : Array Value} {C : String} {T : u_T} {N ci : Nat} {Ts : List Cond} (hts : ∀ w ∈ Ts, w.before args s = true) (hin : ∀ w ∈ u_ws C T N, w ∈ Ts) (ty : Nat → FieldType) (hty : ∀ k, k < N → parseFieldDescriptor (T k).2.2.1 = some (ty k)) (hnm : ∀ a, a < N → ∀ b, b < N → a ≠ b → ff_ap (T a) (T b) = true) (hK : va_K D lk_cl tys s) (hc : lk_cl[ci]? = some (C, T, N)) : ∀ x y, x < N → y < N → x ≠ y → (D.2 ci) x ≠ (D.2 ci) y := by
  intro x y hx hy hne
  obtain ⟨hS, -⟩ := hK.1 ci _ hc
  obtain ⟨_, _, _, fa, hia, ea⟩ := hS x hx
  obtain ⟨_, _, _, fb, hib, eb⟩ := hS y hy
  rw [← ea, ← eb]
  rcases ff_ap_ex (hnm x hx y hy hne) with h | ⟨h1, h2, h3⟩
  · refine u_apart (u_lays hts hin hx) (u_lays hts hin hy) hia hib ?_
    rw [(State.fieldFound?_type hia (hty x hx)).1, (State.fieldFound?_type hib (hty y hy)).1]
    exact h
  · have l1 := hts _ (hin _ (u_in_lay hx))
    have l2 := hts _ (hin _ (u_in_lay hy))
    unfold u_lay at l1 l2
    rw [if_pos h1] at l1
    rw [if_pos h2] at l2
    exact ff_own l1 l2 hia hib h3
abbrev szo (σ : ST) : Nat := σ.2.2.2.2.1
abbrev suo (σ : ST) : Nat := σ.2.2.2.2.2
/-- all slots of a heap -/
def tot (H : Heap) : Nat := (H.toList.map (fun c => c.slots.size)).sum
theorem tot_set {H H1 : Heap} {a : Nat} {c0 c1 : Cell} (h0 : H[a]? = some c0) (h1 : H1[a]? = some c1) (oq : ∀ q : Nat, q ≠ a → H1[q]? = H[q]?) (he : c1.slots.size = c0.slots.size) : tot H1 = tot H := by
  unfold tot
  congr 1
  apply List.ext_getElem?
  intro i
  rw [List.getElem?_map, List.getElem?_map, Array.getElem?_toList, Array.getElem?_toList]
  by_cases hi : i = a
  · subst hi
    rw [h0, h1]
    simp [he]
  · rw [oq i hi]
theorem tot_push {H H1 : Heap} {c : Cell} (hz : H1.size = H.size + 1) (h1 : H1[H.size]? = some c) (oq : ∀ q : Nat, q < H.size → H1[q]? = H[q]?) : tot H1 = tot H + c.slots.size := by
  have e : H1 = H.push c := by
    apply Array.ext_getElem?
    intro i
    rw [Array.getElem?_push]
    by_cases hi : i = H.size
    · subst hi
      rw [if_pos rfl, h1]
    · rw [if_neg hi]
      by_cases h2 : i < H.size
      · exact oq i h2
      · rw [Array.getElem?_eq_none (by omega), Array.getElem?_eq_none (by omega)]
  rw [e]
  simp [tot]
theorem set_slots (cell : Cell) (k : Nat) (v : Value) : (cell.setSlot k v).slots.size = cell.slots.size := by simp [Cell.setSlot]
/-- the picture -/
def Pic (ft : List FC) (G : GT) (σ : ST) (H : Heap) : Prop :=
  (∀ (j : Nat) (c : FC), ft[j]? = some c → va_at G.1 lk_cl (G.2.2.1 j, fxe G σ c) H ∧ G.2.2.2.1 (G.2.2.1 j)) ∧
  (∀ i j : Nat, i < ft.length → j < ft.length → G.2.2.1 i = G.2.2.1 j → i = j) ∧
  (∀ (a : Nat) (e : va_E), σ.2.2.2.1 a = some e → va_at G.1 lk_cl (a, e) H ∧ G.2.2.2.1 a ∧ ∀ j, j < ft.length → G.2.2.1 j ≠ a) ∧
  (G.2.2.2.2 = true → H.size = szo σ ∧ tot H = suo σ ∧ ∀ q, szo σ ≤ q → G.2.2.2.1 q)
def fcode (c : FC) : Nat := match c with
  | .inl q => (q.1 * 1000 + q.2.1) * 2
  | .inr q => q.1 * 2 + 1
def ftW (ft : List FC) : Prop := va_nd (ft.map fcode) = true
theorem ftW.inj {ft : List FC} (h : ftW ft) {i j : Nat} {c d : FC} (hi : ft[i]? = some c) (hj : ft[j]? = some d) (e : fcode c = fcode d) : i = j :=
  va_nd_inj _ h i j (fcode c) (by rw [List.getElem?_map, hi]; rfl) (by rw [List.getElem?_map, hj, e]; rfl)
theorem lt_of_some {α : Type} {l : List α} {i : Nat} {x : α} (h : l[i]? = some x) : i < l.length := (List.getElem?_eq_some_iff.mp h).1
theorem Pic.set {ft : List FC} {G : GT} {σ σ' : ST} {H H1 : Heap} {j : Nat} {c : FC} (h : Pic ft G σ H) (hj : ft[j]? = some c) (he : va_at G.1 lk_cl (G.2.2.1 j, fxe G σ' c) H1) (z : H1.size = H.size) (zt : tot H1 = tot H) (oq : ∀ q : Nat, q ≠ G.2.2.1 j → H1[q]? = H[q]?) (ho : ∀ (i : Nat) (d : FC), i ≠ j → ft[i]? = some d → fxe G σ' d = fxe G σ d) (hg : σ'.2.2.2 = σ.2.2.2) : Pic ft G σ' H1 := by
  obtain ⟨h1, h2, h3, h4⟩ := h
  have hjl := lt_of_some hj
  refine ⟨fun i d hi => ?_, h2, fun a e ha => ?_, fun ht => ?_⟩
  · by_cases hij : i = j
    · subst hij
      rw [hj] at hi
      cases hi
      exact ⟨he, (h1 i c hj).2⟩
    · refine ⟨?_, (h1 i d hi).2⟩
      rw [ho i d hij hi]
      exact (h1 i d hi).1.kept (oq _ fun q => hij (h2 i j (lt_of_some hi) hjl q))
  · rw [hg] at ha
    obtain ⟨a1, a2, a3⟩ := h3 a e ha
    exact ⟨a1.kept (oq a fun q => a3 j hjl q.symm), a2, a3⟩
  · obtain ⟨k1, k2, k3⟩ := h4 ht
    have e1 : szo σ' = szo σ := by show σ'.2.2.2.2.1 = σ.2.2.2.2.1; rw [hg]
    have e2 : suo σ' = suo σ := by show σ'.2.2.2.2.2 = σ.2.2.2.2.2; rw [hg]
    rw [e1, e2, z, zt]
    exact ⟨k1, k2, k3⟩
/-- reads and writes of the fixed cells -/
abbrev gI (σ : ST) (o f : Nat) : Int32 := σ.1 o 0 f
abbrev lI (σ : ST) (o k : Nat) (i : Int32) : Int32 := σ.1 o (k + 1) i.toNatClampNeg
abbrev lL (σ : ST) (o k : Nat) (i : Int32) : Int64 := σ.2.1 o (k + 1) i.toNatClampNeg
abbrev gR (σ : ST) (o f : Nat) : Option Nat := σ.2.2.1 o 0 f
abbrev lR (σ : ST) (o k : Nat) (i : Int32) : Option Nat := σ.2.2.1 o (k + 1) i.toNatClampNeg
def pI (σ : ST) (o f : Nat) (v : Int32) : ST := (up3 σ.1 o 0 f v, σ.2)
def aI (σ : ST) (o k : Nat) (i v : Int32) : ST := (up3 σ.1 o (k + 1) i.toNatClampNeg v, σ.2)
def aL (σ : ST) (o k : Nat) (i : Int32) (v : Int64) : ST := (σ.1, up3 σ.2.1 o (k + 1) i.toNatClampNeg v, σ.2.2)
def pR (σ : ST) (o f : Nat) (r : Option Nat) : ST := (σ.1, σ.2.1, up3 σ.2.2.1 o 0 f r, σ.2.2.2)
def aR (σ : ST) (o k : Nat) (i : Int32) (r : Option Nat) : ST := (σ.1, σ.2.1, up3 σ.2.2.1 o (k + 1) i.toNatClampNeg r, σ.2.2.2)
theorem up3_ne1 {α : Type} {X : Nat → Nat → Nat → α} {o k i o' k' : Nat} {v : α} (h : ¬ (o' = o ∧ k' = k)) : up3 X o k i v o' k' = X o' k' := by
  funext i'
  exact if_neg fun q => h ⟨q.1, q.2.1⟩
theorem up3_self {X : Nat → Nat → Nat → Int32} {o k i : Nat} {v : Int32} : up3 X o k i v o k = upd (X o k) i v := by
  funext i'
  simp [up3, upd]
theorem up3_selfL {X : Nat → Nat → Nat → Int64} {o k i : Nat} {v : Int64} : up3 X o k i v o k = vp_updL (X o k) i v := by
  funext i'
  simp [up3, vp_updL]
theorem up3_selfR {X : Nat → Nat → Nat → Option Nat} {o k i : Nat} {v : Option Nat} : up3 X o k i v o k = va_up (X o k) i v := by
  funext i'
  simp [up3, va_up]
theorem fx_arr_code {o k n t o' k' n' t' : Nat} (h : ¬ fcode (.inl (o, k, n, t)) = fcode (.inl (o', k', n', t'))) : ¬ (o' = o ∧ k' = k) := by
  rintro ⟨rfl, rfl⟩
  exact h rfl
theorem fx_pI {ft : List FC} {G : GT} {σ : ST} {j o ci f : Nat} {fl : List (Nat × Nat)} {v : Int32} (hw : ftW ft) (hj : ft[j]? = some (.inr (o, ci, fl))) : ∀ (i : Nat) (d : FC), i ≠ j → ft[i]? = some d → fxe G (pI σ o f v) d = fxe G σ d := by
  intro i d hij hi
  have hc : ¬ fcode (.inr (o, ci, fl)) = fcode d := fun q => hij (hw.inj hi hj q.symm)
  match d, hc with
  | .inl (o', k', n', t'), _ =>
    show (Sum.inl (_, _, _) : va_E) = Sum.inl (_, _, _)
    have e0 : (pI σ o f v).1 o' (k' + 1) = σ.1 o' (k' + 1) := up3_ne1 (fun q => absurd q.2 (Nat.succ_ne_zero _))
    have e : fxa (pI σ o f v) o' k' t' = fxa σ o' k' t' := by
      unfold fxa
      rw [e0]
      rfl
    rw [e]
  | .inr (o', ci', fl'), hc =>
    have hne : ¬ o' = o := fun q => hc (by rw [q]; rfl)
    show (Sum.inr (_, _) : va_E) = Sum.inr (_, _)
    have e : (fun (f' : Nat) (x : Nat × Nat) => fxv G (pI σ o f v) o' f' x) = (fun (f' : Nat) (x : Nat × Nat) => fxv G σ o' f' x) := by
      funext f' x
      have e0 : (pI σ o f v).1 o' 0 f' = σ.1 o' 0 f' := congrFun (up3_ne1 (fun q => hne q.1)) f'
      unfold fxv
      rw [e0]
      rfl
    rw [e]
theorem fx_pR {ft : List FC} {G : GT} {σ : ST} {j o ci f : Nat} {fl : List (Nat × Nat)} {v : Option Nat} (hw : ftW ft) (hj : ft[j]? = some (.inr (o, ci, fl))) : ∀ (i : Nat) (d : FC), i ≠ j → ft[i]? = some d → fxe G (pR σ o f v) d = fxe G σ d := by
  intro i d hij hi
  have hc : ¬ fcode (.inr (o, ci, fl)) = fcode d := fun q => hij (hw.inj hi hj q.symm)
  match d, hc with
  | .inl (o', k', n', t'), _ =>
    show (Sum.inl (_, _, _) : va_E) = Sum.inl (_, _, _)
    have e0 : (pR σ o f v).2.2.1 o' (k' + 1) = σ.2.2.1 o' (k' + 1) := up3_ne1 (fun q => absurd q.2 (Nat.succ_ne_zero _))
    have e : fxa (pR σ o f v) o' k' t' = fxa σ o' k' t' := by
      unfold fxa
      rw [e0]
      rfl
    rw [e]
  | .inr (o', ci', fl'), hc =>
    have hne : ¬ o' = o := fun q => hc (by rw [q]; rfl)
    show (Sum.inr (_, _) : va_E) = Sum.inr (_, _)
    have e : (fun (f' : Nat) (x : Nat × Nat) => fxv G (pR σ o f v) o' f' x) = (fun (f' : Nat) (x : Nat × Nat) => fxv G σ o' f' x) := by
      funext f' x
      have e0 : (pR σ o f v).2.2.1 o' 0 f' = σ.2.2.1 o' 0 f' := congrFun (up3_ne1 (fun q => hne q.1)) f'
      unfold fxv
      rw [e0]
      rfl
    rw [e]
theorem fx_aI {ft : List FC} {G : GT} {σ : ST} {j o k n t : Nat} {i0 v : Int32} (hw : ftW ft) (hj : ft[j]? = some (.inl (o, k, n, t))) : ∀ (i : Nat) (d : FC), i ≠ j → ft[i]? = some d → fxe G (aI σ o k i0 v) d = fxe G σ d := by
  intro i d hij hi
  have hc : ¬ fcode (.inl (o, k, n, t)) = fcode d := fun q => hij (hw.inj hi hj q.symm)
  match d, hc with
  | .inl (o', k', n', t'), hc =>
    have hne := fx_arr_code hc
    show (Sum.inl (_, _, _) : va_E) = Sum.inl (_, _, _)
    have e0 : (aI σ o k i0 v).1 o' (k' + 1) = σ.1 o' (k' + 1) := up3_ne1 (fun q => hne ⟨q.1, Nat.succ.inj q.2⟩)
    have e : fxa (aI σ o k i0 v) o' k' t' = fxa σ o' k' t' := by
      unfold fxa
      rw [e0]
      rfl
    rw [e]
  | .inr (o', ci', fl'), hc =>
    show (Sum.inr (_, _) : va_E) = Sum.inr (_, _)
    have e : (fun (f' : Nat) (x : Nat × Nat) => fxv G (aI σ o k i0 v) o' f' x) = (fun (f' : Nat) (x : Nat × Nat) => fxv G σ o' f' x) := by
      funext f' x
      have e0 : (aI σ o k i0 v).1 o' 0 f' = σ.1 o' 0 f' := congrFun (up3_ne1 (fun q => absurd q.2.symm (Nat.succ_ne_zero _))) f'
      unfold fxv
      rw [e0]
      rfl
    rw [e]
theorem fx_aL {ft : List FC} {G : GT} {σ : ST} {j o k n t : Nat} {i0 : Int32} {v : Int64} (hw : ftW ft) (hj : ft[j]? = some (.inl (o, k, n, t))) : ∀ (i : Nat) (d : FC), i ≠ j → ft[i]? = some d → fxe G (aL σ o k i0 v) d = fxe G σ d := by
  intro i d hij hi
  have hc : ¬ fcode (.inl (o, k, n, t)) = fcode d := fun q => hij (hw.inj hi hj q.symm)
  match d, hc with
  | .inl (o', k', n', t'), hc =>
    have hne := fx_arr_code hc
    show (Sum.inl (_, _, _) : va_E) = Sum.inl (_, _, _)
    have e0 : (aL σ o k i0 v).2.1 o' (k' + 1) = σ.2.1 o' (k' + 1) := up3_ne1 (fun q => hne ⟨q.1, Nat.succ.inj q.2⟩)
    have e : fxa (aL σ o k i0 v) o' k' t' = fxa σ o' k' t' := by
      unfold fxa
      rw [e0]
      rfl
    rw [e]
  | .inr (o', ci', fl'), hc => rfl
theorem fx_aR {ft : List FC} {G : GT} {σ : ST} {j o k n t : Nat} {i0 : Int32} {v : Option Nat} (hw : ftW ft) (hj : ft[j]? = some (.inl (o, k, n, t))) : ∀ (i : Nat) (d : FC), i ≠ j → ft[i]? = some d → fxe G (aR σ o k i0 v) d = fxe G σ d := by
  intro i d hij hi
  have hc : ¬ fcode (.inl (o, k, n, t)) = fcode d := fun q => hij (hw.inj hi hj q.symm)
  match d, hc with
  | .inl (o', k', n', t'), hc =>
    have hne := fx_arr_code hc
    show (Sum.inl (_, _, _) : va_E) = Sum.inl (_, _, _)
    have e0 : (aR σ o k i0 v).2.2.1 o' (k' + 1) = σ.2.2.1 o' (k' + 1) := up3_ne1 (fun q => hne ⟨q.1, Nat.succ.inj q.2⟩)
    have e : fxa (aR σ o k i0 v) o' k' t' = fxa σ o' k' t' := by
      unfold fxa
      rw [e0]
      rfl
    rw [e]
  | .inr (o', ci', fl'), hc =>
    show (Sum.inr (_, _) : va_E) = Sum.inr (_, _)
    have e : (fun (f' : Nat) (x : Nat × Nat) => fxv G (aR σ o k i0 v) o' f' x) = (fun (f' : Nat) (x : Nat × Nat) => fxv G σ o' f' x) := by
      funext f' x
      have e0 : (aR σ o k i0 v).2.2.1 o' 0 f' = σ.2.2.1 o' 0 f' := congrFun (up3_ne1 (fun q => absurd q.2.symm (Nat.succ_ne_zero _))) f'
      unfold fxv
      rw [e0]
      rfl
    rw [e]
/-- the words that don't ride in the list: nest mates' links, declared methods, casts -/
def isN (w : Cond) : Bool := match w with
  | .fieldLinkNest _ _ _ _ _ _ => true
  | .methodLinkNest _ _ _ _ => true
  | .declares _ => true
  | .castable _ _ => true
  | .publicMethod _ => true
  | .unhidden _ _ _ => true
  | .arrayOver (.object _) => true
  | _ => false
def NW (U : State) : Prop := ∀ w ∈ lw_tbl, isN w = true → va_Nw w U
theorem nw_warmP {y : MethodName} {s U : State} (hW : s.WarmedH U.vm) (hZ : va_Nw (.publicMethod y) s) : va_Nw (.publicMethod y) U := va_tabs rfl (rfl : (s.setVm U.vm).vm = U.vm) (by rw [Cond.publicMethod_setVm hW.alike]; exact hZ)
theorem nw_warmU {a b c : String} {s U : State} (hW : s.WarmedH U.vm) (hZ : va_Nw (.unhidden a b c) s) : va_Nw (.unhidden a b c) U := va_tabs rfl (rfl : (s.setVm U.vm).vm = U.vm) (by rw [Cond.unhidden_setVm hW.alike]; exact hZ)
theorem nw_warmA {t : FieldType} {s U : State} (hW : s.WarmedH U.vm) (hZ : va_Nw (.arrayOver t) s) (hi : isN (.arrayOver t) = true) : va_Nw (.arrayOver t) U := by
  cases t <;> first | exact va_AO.moved hW.alike hZ | (simp [isN] at hi)
theorem NW.warm {s U : State} (hW : s.WarmedH U.vm) (h : NW s) : NW U := by
  intro w hw hi
  have h1 := h w hw hi
  cases w <;> first | exact va_Nw.warmF hW h1 | exact va_Nw.warmM hW h1 | exact va_Nw.warmD hW h1 | exact va_Nw.warmC hW h1 | exact nw_warmP hW h1 | exact nw_warmU hW h1 | exact nw_warmA hW h1 hi | (simp [isN] at hi)
/-- the two methods that are called through an interface -/
def yKN : MethodName := ⟨"SpeaksInTurn$Knows", "knows", "(I)I"⟩
def yTL : MethodName := ⟨"SpeaksInTurn$Tells", "tells", "(I)I"⟩
def IFm (x : MethodName) (U : State) : Prop := (Cond.declares x).before #[] U = true ∧ (Cond.interfaceMethod x.cls x.cls x.name x.desc).before #[] U = true
theorem IFm.moved {x : MethodName} (hx : x.cls ≠ "java/lang/invoke/MethodHandle" ∧ x.cls ≠ "java/lang/invoke/VarHandle") {u U : State} (hvm : u.vm.Alike U.vm) (h : IFm x u) : IFm x U := by
  obtain ⟨h1, h2⟩ := h
  obtain ⟨r, meth, hn, -⟩ := Cond.declares_spec h1
  exact ⟨va_tabs rfl (rfl : (u.setVm U.vm).vm = U.vm) (by rw [Cond.declares_setVm hvm]; exact h1), va_tabs rfl (rfl : (u.setVm U.vm).vm = U.vm) (by rw [Cond.interfaceMethod_setVm hvm (r := r) hn hx]; exact h2)⟩
def IFs (U : State) : Prop := IFm yKN U ∧ IFm yTL U
theorem IFs.moved {u U : State} (hvm : u.vm.Alike U.vm) (h : IFs u) : IFs U := ⟨h.1.moved (by decide) hvm, h.2.moved (by decide) hvm⟩
/-- the String constants of the reader, by number: rvenstpl, */%, +-, <=> -/
def sk_len : List Nat := [8, 3, 2, 3]
def sk_byt : List (List Int32) := [[114, 118, 101, 110, 115, 116, 112, 108], [42, 47, 37], [43, 45], [60, 61, 62]]
def sk_ix : List Nat := [98, 93, 88, 79]
def sk_tx : List String := ["rvenstpl", "*/%", "+-", "<=>"]
/-- casts that fail, as the start says -/
def ncl : List (String × String) := [("java/lang/NullPointerException", "java/lang/ClassCastException"), ("java/lang/ArrayIndexOutOfBoundsException", "java/lang/ClassCastException"), ("java/lang/NegativeArraySizeException", "java/lang/ClassCastException"), ("java/lang/ClassCastException", "java/lang/NullPointerException"), ("java/lang/ArrayIndexOutOfBoundsException", "java/lang/NullPointerException"), ("java/lang/NegativeArraySizeException", "java/lang/NullPointerException"), ("java/lang/ClassCastException", "java/lang/IndexOutOfBoundsException"), ("java/lang/NullPointerException", "java/lang/IndexOutOfBoundsException"), ("java/lang/NegativeArraySizeException", "java/lang/IndexOutOfBoundsException"), ("java/lang/ClassCastException", "java/lang/NegativeArraySizeException"), ("java/lang/NullPointerException", "java/lang/NegativeArraySizeException"), ("java/lang/ArrayIndexOutOfBoundsException", "java/lang/NegativeArraySizeException"), ("SpeaksInTurn$New", "SpeaksInTurn$ShortRow"), ("SpeaksInTurn$Shared", "SpeaksInTurn$ShortRow"), ("SpeaksInTurn$Again", "SpeaksInTurn$ShortRow"), ("SpeaksInTurn$Stopped", "SpeaksInTurn$ShortRow"), ("SpeaksInTurn$Taken", "SpeaksInTurn$ShortRow"), ("SpeaksInTurn$Easy", "SpeaksInTurn$ShortRow"), ("SpeaksInTurn$Unheard", "SpeaksInTurn$ShortRow"), ("SpeaksInTurn$Plain", "SpeaksInTurn$ShortRow"), ("SpeaksInTurn$ByteRow", "SpeaksInTurn$ShortRow"), ("SpeaksInTurn$IntRow", "SpeaksInTurn$ShortRow"), ("SpeaksInTurn$LongRow", "SpeaksInTurn$ShortRow"), ("SpeaksInTurn$BooleanRow", "SpeaksInTurn$ShortRow"), ("SpeaksInTurn$New", "SpeaksInTurn$ByteRow"), ("SpeaksInTurn$Shared", "SpeaksInTurn$ByteRow"), ("SpeaksInTurn$Again", "SpeaksInTurn$ByteRow"), ("SpeaksInTurn$Stopped", "SpeaksInTurn$ByteRow"), ("SpeaksInTurn$Taken", "SpeaksInTurn$ByteRow"), ("SpeaksInTurn$Easy", "SpeaksInTurn$ByteRow"), ("SpeaksInTurn$Unheard", "SpeaksInTurn$ByteRow"), ("SpeaksInTurn$Plain", "SpeaksInTurn$ByteRow"), ("SpeaksInTurn$ShortRow", "SpeaksInTurn$ByteRow"), ("SpeaksInTurn$IntRow", "SpeaksInTurn$ByteRow"), ("SpeaksInTurn$LongRow", "SpeaksInTurn$ByteRow"), ("SpeaksInTurn$BooleanRow", "SpeaksInTurn$ByteRow"), ("SpeaksInTurn$New", "SpeaksInTurn$Row"), ("SpeaksInTurn$Shared", "SpeaksInTurn$Row"), ("SpeaksInTurn$Again", "SpeaksInTurn$Row"), ("SpeaksInTurn$Stopped", "SpeaksInTurn$Row"), ("SpeaksInTurn$Taken", "SpeaksInTurn$Row"), ("SpeaksInTurn$Easy", "SpeaksInTurn$Row"), ("SpeaksInTurn$Unheard", "SpeaksInTurn$Row"), ("SpeaksInTurn$Plain", "SpeaksInTurn$Row"), ("SpeaksInTurn$New", "SpeaksInTurn$BooleanRow"), ("SpeaksInTurn$Shared", "SpeaksInTurn$BooleanRow"), ("SpeaksInTurn$Again", "SpeaksInTurn$BooleanRow"), ("SpeaksInTurn$Stopped", "SpeaksInTurn$BooleanRow"), ("SpeaksInTurn$Taken", "SpeaksInTurn$BooleanRow"), ("SpeaksInTurn$Easy", "SpeaksInTurn$BooleanRow"), ("SpeaksInTurn$Unheard", "SpeaksInTurn$BooleanRow"), ("SpeaksInTurn$Plain", "SpeaksInTurn$BooleanRow"), ("SpeaksInTurn$ByteRow", "SpeaksInTurn$BooleanRow"), ("SpeaksInTurn$ShortRow", "SpeaksInTurn$BooleanRow"), ("SpeaksInTurn$IntRow", "SpeaksInTurn$BooleanRow"), ("SpeaksInTurn$LongRow", "SpeaksInTurn$BooleanRow"), ("SpeaksInTurn$New", "SpeaksInTurn$IntRow"), ("SpeaksInTurn$Shared", "SpeaksInTurn$IntRow"), ("SpeaksInTurn$Again", "SpeaksInTurn$IntRow"), ("SpeaksInTurn$Stopped", "SpeaksInTurn$IntRow"), ("SpeaksInTurn$Taken", "SpeaksInTurn$IntRow"), ("SpeaksInTurn$Easy", "SpeaksInTurn$IntRow"), ("SpeaksInTurn$Unheard", "SpeaksInTurn$IntRow"), ("SpeaksInTurn$Plain", "SpeaksInTurn$IntRow"), ("SpeaksInTurn$ByteRow", "SpeaksInTurn$IntRow"), ("SpeaksInTurn$ShortRow", "SpeaksInTurn$IntRow"), ("SpeaksInTurn$LongRow", "SpeaksInTurn$IntRow"), ("SpeaksInTurn$BooleanRow", "SpeaksInTurn$IntRow"), ("SpeaksInTurn$New", "SpeaksInTurn$LongRow"), ("SpeaksInTurn$Shared", "SpeaksInTurn$LongRow"), ("SpeaksInTurn$Again", "SpeaksInTurn$LongRow"), ("SpeaksInTurn$Stopped", "SpeaksInTurn$LongRow"), ("SpeaksInTurn$Taken", "SpeaksInTurn$LongRow"), ("SpeaksInTurn$Easy", "SpeaksInTurn$LongRow"), ("SpeaksInTurn$Unheard", "SpeaksInTurn$LongRow"), ("SpeaksInTurn$Plain", "SpeaksInTurn$LongRow"), ("SpeaksInTurn$ByteRow", "SpeaksInTurn$LongRow"), ("SpeaksInTurn$ShortRow", "SpeaksInTurn$LongRow"), ("SpeaksInTurn$IntRow", "SpeaksInTurn$LongRow"), ("SpeaksInTurn$BooleanRow", "SpeaksInTurn$LongRow"), ("SpeaksInTurn$ByteRow", "SpeaksInTurn$Plain"), ("SpeaksInTurn$ShortRow", "SpeaksInTurn$Plain"), ("SpeaksInTurn$IntRow", "SpeaksInTurn$Plain"), ("SpeaksInTurn$LongRow", "SpeaksInTurn$Plain"), ("SpeaksInTurn$BooleanRow", "SpeaksInTurn$Plain")]
def NCs (U : State) : Prop := ∀ q ∈ ncl, va_Nc q.1 q.2 U
theorem NCs.moved {u U : State} (hvm : u.vm.Alike U.vm) (h : NCs u) : NCs U := fun q hq => (h q hq).moved hvm
/-- a static of Throwable: it holds a reference or null, and its cell is never written -/
def zsT (n d : String) (A : Nat → Prop) (U : State) (H : Heap) : Prop := ∃ (cf : ClassId) (kf : Class) (fi : Nat) (f : Field) (a : Nat) (cell : Cell), U.vm.findClass "java/lang/Throwable" = some cf ∧ U.fieldFound? "java/lang/Throwable" n d = some (cf, kf, fi, f) ∧ f.isStatic = true ∧ kf.statics = some a ∧ H[a]? = some cell ∧ cell.vm.isStatics = true ∧ cell.cls = cf ∧ f.slot < cell.slots.size ∧ kf.staticTypes[f.slot]? = some f.type ∧ (∃ r : Option Nat, cell.slots[f.slot]? = some (va_rf r)) ∧ ¬ A a
theorem zsT.moved {n d : String} {A : Nat → Prop} {u U : State} {H : Heap} (hvm : u.vm.Alike U.vm) (h : zsT n d A u H) : zsT n d A U H := by
  obtain ⟨cf, kf, fi, f, a, cell, h0, h1, h2, h3, h4, h5, h6, h7, h8, h9⟩ := h
  obtain ⟨k', hi', he⟩ := State.fieldFound?_setVm hvm h1
  exact ⟨cf, k', fi, f, a, cell, by rw [hvm.findClass]; exact h0, hi', h2, by rw [he]; exact h3, h4, h5, h6, h7, by rw [he]; exact h8, h9⟩
theorem zsT.kept {n d : String} {A : Nat → Prop} {U : State} {H H1 : Heap} (h : zsT n d A U H) (hq : ∀ a : Nat, a < H.size → ¬ A a → H1[a]? = H[a]?) : zsT n d A U H1 := by
  obtain ⟨cf, kf, fi, f, a, cell, h0, h1, h2, h3, h4, h5, h6, h7, h8, h9, h10⟩ := h
  exact ⟨cf, kf, fi, f, a, cell, h0, h1, h2, h3, by rw [hq a (Array.getElem?_eq_some_iff.mp h4).1 h10]; exact h4, h5, h6, h7, h8, h9, h10⟩
/-- the modules: one of the bootstrap loader that holds the unnamed package is java.base -/
def MR (U : State) : Prop := ∀ m ∈ U.vm.modules, m.loader.isSome = true ∨ m.name = "java.base" ∨ m.packages.contains "" = false
theorem MR.moved {u U : State} (hvm : u.vm.Alike U.vm) (h : MR u) : MR U := by
  have e : U.vm.modules = u.vm.modules := by rw [hvm.1]
  unfold MR
  rw [e]
  exact h
/-- what a throw asks of the start: the statics of Throwable, what isn't castable, the modules -/
def TWs (A : Nat → Prop) (U : State) (H : Heap) : Prop := zsT "UNASSIGNED_STACK" "[Ljava/lang/StackTraceElement;" A U H ∧ zsT "SUPPRESSED_SENTINEL" "Ljava/util/List;" A U H ∧ NCs U ∧ MR U
theorem TWs.moved {A : Nat → Prop} {u U : State} {H : Heap} (hvm : u.vm.Alike U.vm) (h : TWs A u H) : TWs A U H := ⟨h.1.moved hvm, h.2.1.moved hvm, h.2.2.1.moved hvm, h.2.2.2.moved hvm⟩
theorem TWs.kept {A : Nat → Prop} {U : State} {H H1 : Heap} (h : TWs A U H) (hq : ∀ a : Nat, a < H.size → ¬ A a → H1[a]? = H[a]?) : TWs A U H1 := ⟨h.1.kept hq, h.2.1.kept hq, h.2.2⟩
/-- what stands from the start and is never written -/
def EV (G : GT) (U : State) : Prop := G.2.2.2.2 = true →
  vk_S 4 sk_len sk_byt (fun k => G.2.2.1 (1000 + k)) (fun k => G.2.2.1 (2000 + k)) G.2.2.2.1 U U.heap ∧ (∀ k, k < 4 → vk_R RX7 (sk_ix.getD k 0) (sk_tx.getD k "") (G.2.2.1 (1000 + k)) U) ∧ va_Z "java/lang/String" "COMPACT_STRINGS" "Z" (.int 1) G.2.2.2.1 U U.heap ∧ IFs U ∧ TWs G.2.2.2.1 U U.heap
theorem EV.fin {G : GT} {s t : State} {H : Heap} {locs : List Loc} (h : EV G s) (hS : va_S G.2.2.2.1 s.heap H locs) (ht : t.heap = H) (hW : s.WarmedH t.vm) : EV G t := by
  intro hal
  obtain ⟨h1, h2, h3, h4, h5⟩ := h hal
  have hq : ∀ a : Nat, a < s.heap.size → ¬ G.2.2.2.1 a → t.heap[a]? = s.heap[a]? := fun a z1 z2 => by rw [ht]; exact hS.2.1 a z1 z2
  exact ⟨(h1.moved hW.alike).kept hq, fun k hk => (h2 k hk).warm hW, (h3.moved hW.alike).kept hq, h4.moved hW.alike, (h5.moved hW.alike).kept hq⟩
theorem EV.blind {G : GT} {U : State} {g : JFrame} {mk : MethodId} {a : Array Value} (h : EV G U) : EV G (U.calling g mk a) := by
  intro hal
  obtain ⟨h1, h2, h3, h4, h5⟩ := h hal
  exact ⟨vk_S.moved (u := U) (U := U.calling g mk a) (Vm.Alike.refl U.vm) h1, fun k hk => vk_R.same (u := U) (U := U.calling g mk a) rfl (h2 k hk), va_Z.moved (u := U) (U := U.calling g mk a) (Vm.Alike.refl U.vm) h3, IFs.moved (u := U) (U := U.calling g mk a) (Vm.Alike.refl U.vm) h4, TWs.moved (u := U) (U := U.calling g mk a) (Vm.Alike.refl U.vm) h5⟩
/-- what holds of the machine and the tables all through a method's walk -/
abbrev CX (G : GT) (p : Program) (m : MethodId) (c : Code) (cc : ByteArray) (nL : Nat) (s : State) (args : Array Value) (own : String) : Prop :=
  CallFix p m c cc nL s args lw_all own ∧ va_K G.1 lk_cl (lk_tys G) s ∧ NW s ∧ EV G s
/-- the picture, and the frame -/
abbrev PS (ft : List FC) (G : GT) (s : State) (σ : ST) (H : Heap) (locs : List Loc) : Prop := Pic ft G σ H ∧ va_S G.2.2.2.1 s.heap H locs
/-- the picture at a method's start or end -/
def PicU (ft : List FC) (G : GT) (σ : ST) (U : State) : Prop := Pic ft G σ U.heap ∧ va_K G.1 lk_cl (lk_tys G) U ∧ NW U ∧ EV G U
theorem va_P1 {D : va_G} {cl : List vw_C} {a : Nat} {e : va_E} {H : Heap} (h : va_at D cl (a, e) H) : va_P D cl [(a, e)] H := by
  intro k q hk
  match k, hk with
  | 0, hk => cases hk; exact h
  | k + 1, hk => simp at hk
theorem fxl_at {G : GT} {σ : ST} {o f : Nat} {fl : List (Nat × Nat)} {q : Nat × Nat} (h : fl[f]? = some q) : (fl.mapIdx (fun f x => fxv G σ o f x))[f]? = some (fxv G σ o f q) := by
  rw [List.getElem?_mapIdx, h]
  rfl
theorem fxl_set {G : GT} {σ σ' : ST} {o f : Nat} {fl : List (Nat × Nat)} {v : Value} (hv : ∀ q, fl[f]? = some q → fxv G σ' o f q = v) (ho : ∀ (f' : Nat) (q : Nat × Nat), f' ≠ f → fl[f']? = some q → fxv G σ' o f' q = fxv G σ o f' q) : (fl.mapIdx (fun f x => fxv G σ o f x)).set f v = fl.mapIdx (fun f x => fxv G σ' o f x) := by
  apply List.ext_getElem?
  intro i
  rw [List.getElem?_set, List.getElem?_mapIdx, List.getElem?_mapIdx, List.length_mapIdx]
  by_cases h : f = i
  · subst h
    rw [if_pos rfl]
    cases hq : fl[f]? with
    | none =>
      have : ¬ f < fl.length := fun z => by rw [List.getElem?_eq_getElem z] at hq; cases hq
      rw [if_neg this]; rfl
    | some q =>
      rw [if_pos (lt_of_some hq), ← hv q hq]; rfl
  · rw [if_neg h]
    cases hq : fl[i]? with
    | none => rfl
    | some q => exact congrArg some (ho i q (fun e => h e.symm) hq).symm
