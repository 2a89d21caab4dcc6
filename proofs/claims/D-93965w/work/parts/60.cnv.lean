set_option maxRecDepth 100000
def cp_pos : List Nat := [0, 1, 2, 3, 4, 5, 8, 43, 44, 45, 46, 47, 48, 6, 7, 9, 10, 11, 12, 13, 14, 15, 16, 17, 18, 19, 20, 21, 22, 23, 24, 25, 26, 27, 28, 29, 30, 31, 32, 33, 34, 35, 36, 37, 38, 39, 40, 41, 42]
theorem cp_posi : ∀ i, i < 49 → ∀ j, j < 49 → cp_pos.getD i 0 = cp_pos.getD j 0 → i = j := by decide +kernel
def cp_G (G : GT) (n0 : Nat) (A : Nat → Prop) (al : Bool) : GT := (G.1, G.2.1, (fun j => if j < 49 then n0 + cp_pos.getD j 0 else G.2.2.1 j), A, al)
def cp_s0 (z w : Nat) : ST := ((fun o k => if o = 0 ∧ k = 0 then (fun i => if i = 8 then 3 else 0) else fun _ => 0), fun _ _ _ => 0, fun _ _ _ => none, fun _ => none, z, w)
theorem cp_e0 (G : GT) (n0 : Nat) (A : Nat → Prop) (al : Bool) (z w : Nat) : fxe (cp_G G n0 A al) (cp_s0 z w) (.inr (0, 0, cp_fl)) = .inr (0, [.ref (n0 + 1), .ref (n0 + 2), .ref (n0 + 3), .int 0, .int 0, .int 0, .int 0, .int 0, .int 3, .ref (n0 + 4), .int 0, .int 0, .ref (n0 + 5), .int 0, .null, .ref (n0 + 6), .ref (n0 + 8), .ref (n0 + 9), .ref (n0 + 26), .ref (n0 + 43), .ref (n0 + 44), .ref (n0 + 45), .int 0, .int 0, .int 0, .int 0, .int 0, .int 0, .int 0, .int 0, .ref (n0 + 46), .ref (n0 + 47), .int 0, .ref (n0 + 48)]) := by
  show (Sum.inr (_, List.mapIdx _ _) : va_E) = _
  simp only [cp_fl, fa_fl, mg_fl, tw_fl, List.mapIdx_cons, List.mapIdx_nil]
  rfl
theorem cp_a0 (G : GT) (n0 : Nat) (A : Nat → Prop) (al : Bool) : (cp_G G n0 A al).2.2.1 0 = n0 + 0 := rfl
theorem cp_l0 (ks : Nat → ClassId) (n0 : Nat) : (cp_L ks n0)[0]? = some (.inr (0, [.ref (n0 + 1), .ref (n0 + 2), .ref (n0 + 3), .int 0, .int 0, .int 0, .int 0, .int 0, .int 3, .ref (n0 + 4), .int 0, .int 0, .ref (n0 + 5), .int 0, .null, .ref (n0 + 6), .ref (n0 + 8), .ref (n0 + 9), .ref (n0 + 26), .ref (n0 + 43), .ref (n0 + 44), .ref (n0 + 45), .int 0, .int 0, .int 0, .int 0, .int 0, .int 0, .int 0, .int 0, .ref (n0 + 46), .ref (n0 + 47), .int 0, .ref (n0 + 48)])) := rfl
theorem cp_x0 {G : GT} {σ : ST} {n0 w z : Nat} {H : Heap} {A : Nat → Prop} {al : Bool} (h : Pic [] G (fil σ n0 (cp_L G.2.1 n0) w) H) (hA : ∀ q, n0 ≤ q → q < n0 + 49 → A q) : va_at (cp_G G n0 A al).1 lk_cl ((cp_G G n0 A al).2.2.1 0, fxe (cp_G G n0 A al) (cp_s0 z w) (.inr (0, 0, cp_fl))) H ∧ (cp_G G n0 A al).2.2.2.1 ((cp_G G n0 A al).2.2.1 0) := by
  rw [cp_e0, cp_a0]
  exact ⟨(h.2.2.1 (n0 + 0) _ (fil_g 0 rfl (cp_l0 G.2.1 n0))).1, hA (n0 + 0) (Nat.le_add_right _ _) (Nat.add_lt_add_left (by decide) _)⟩
theorem cp_e1 (G : GT) (n0 : Nat) (A : Nat → Prop) (al : Bool) (z w : Nat) : fxe (cp_G G n0 A al) (cp_s0 z w) (.inl (0, 0, 10, 3)) = ea_q G.2.1 3 10 := rfl
theorem cp_a1 (G : GT) (n0 : Nat) (A : Nat → Prop) (al : Bool) : (cp_G G n0 A al).2.2.1 1 = n0 + 1 := rfl
theorem cp_l1 (ks : Nat → ClassId) (n0 : Nat) : (cp_L ks n0)[1]? = some (ea_q ks 3 10) := rfl
theorem cp_x1 {G : GT} {σ : ST} {n0 w z : Nat} {H : Heap} {A : Nat → Prop} {al : Bool} (h : Pic [] G (fil σ n0 (cp_L G.2.1 n0) w) H) (hA : ∀ q, n0 ≤ q → q < n0 + 49 → A q) : va_at (cp_G G n0 A al).1 lk_cl ((cp_G G n0 A al).2.2.1 1, fxe (cp_G G n0 A al) (cp_s0 z w) (.inl (0, 0, 10, 3))) H ∧ (cp_G G n0 A al).2.2.2.1 ((cp_G G n0 A al).2.2.1 1) := by
  rw [cp_e1, cp_a1]
  exact ⟨(h.2.2.1 (n0 + 1) _ (fil_g 1 rfl (cp_l1 G.2.1 n0))).1, hA (n0 + 1) (Nat.le_add_right _ _) (Nat.add_lt_add_left (by decide) _)⟩
theorem cp_e2 (G : GT) (n0 : Nat) (A : Nat → Prop) (al : Bool) (z w : Nat) : fxe (cp_G G n0 A al) (cp_s0 z w) (.inl (0, 1, 6, 4)) = ea_q G.2.1 4 6 := rfl
theorem cp_a2 (G : GT) (n0 : Nat) (A : Nat → Prop) (al : Bool) : (cp_G G n0 A al).2.2.1 2 = n0 + 2 := rfl
theorem cp_l2 (ks : Nat → ClassId) (n0 : Nat) : (cp_L ks n0)[2]? = some (ea_q ks 4 6) := rfl
theorem cp_x2 {G : GT} {σ : ST} {n0 w z : Nat} {H : Heap} {A : Nat → Prop} {al : Bool} (h : Pic [] G (fil σ n0 (cp_L G.2.1 n0) w) H) (hA : ∀ q, n0 ≤ q → q < n0 + 49 → A q) : va_at (cp_G G n0 A al).1 lk_cl ((cp_G G n0 A al).2.2.1 2, fxe (cp_G G n0 A al) (cp_s0 z w) (.inl (0, 1, 6, 4))) H ∧ (cp_G G n0 A al).2.2.2.1 ((cp_G G n0 A al).2.2.1 2) := by
  rw [cp_e2, cp_a2]
  exact ⟨(h.2.2.1 (n0 + 2) _ (fil_g 2 rfl (cp_l2 G.2.1 n0))).1, hA (n0 + 2) (Nat.le_add_right _ _) (Nat.add_lt_add_left (by decide) _)⟩
theorem cp_e3 (G : GT) (n0 : Nat) (A : Nat → Prop) (al : Bool) (z w : Nat) : fxe (cp_G G n0 A al) (cp_s0 z w) (.inl (0, 2, 20, 5)) = ea_q G.2.1 5 20 := rfl
theorem cp_a3 (G : GT) (n0 : Nat) (A : Nat → Prop) (al : Bool) : (cp_G G n0 A al).2.2.1 3 = n0 + 3 := rfl
theorem cp_l3 (ks : Nat → ClassId) (n0 : Nat) : (cp_L ks n0)[3]? = some (ea_q ks 5 20) := rfl
theorem cp_x3 {G : GT} {σ : ST} {n0 w z : Nat} {H : Heap} {A : Nat → Prop} {al : Bool} (h : Pic [] G (fil σ n0 (cp_L G.2.1 n0) w) H) (hA : ∀ q, n0 ≤ q → q < n0 + 49 → A q) : va_at (cp_G G n0 A al).1 lk_cl ((cp_G G n0 A al).2.2.1 3, fxe (cp_G G n0 A al) (cp_s0 z w) (.inl (0, 2, 20, 5))) H ∧ (cp_G G n0 A al).2.2.2.1 ((cp_G G n0 A al).2.2.1 3) := by
  rw [cp_e3, cp_a3]
  exact ⟨(h.2.2.1 (n0 + 3) _ (fil_g 3 rfl (cp_l3 G.2.1 n0))).1, hA (n0 + 3) (Nat.le_add_right _ _) (Nat.add_lt_add_left (by decide) _)⟩
theorem cp_e4 (G : GT) (n0 : Nat) (A : Nat → Prop) (al : Bool) (z w : Nat) : fxe (cp_G G n0 A al) (cp_s0 z w) (.inl (0, 9, 40, 6)) = ea_q G.2.1 6 40 := rfl
theorem cp_a4 (G : GT) (n0 : Nat) (A : Nat → Prop) (al : Bool) : (cp_G G n0 A al).2.2.1 4 = n0 + 4 := rfl
theorem cp_l4 (ks : Nat → ClassId) (n0 : Nat) : (cp_L ks n0)[4]? = some (ea_q ks 6 40) := rfl
theorem cp_x4 {G : GT} {σ : ST} {n0 w z : Nat} {H : Heap} {A : Nat → Prop} {al : Bool} (h : Pic [] G (fil σ n0 (cp_L G.2.1 n0) w) H) (hA : ∀ q, n0 ≤ q → q < n0 + 49 → A q) : va_at (cp_G G n0 A al).1 lk_cl ((cp_G G n0 A al).2.2.1 4, fxe (cp_G G n0 A al) (cp_s0 z w) (.inl (0, 9, 40, 6))) H ∧ (cp_G G n0 A al).2.2.2.1 ((cp_G G n0 A al).2.2.1 4) := by
  rw [cp_e4, cp_a4]
  exact ⟨(h.2.2.1 (n0 + 4) _ (fil_g 4 rfl (cp_l4 G.2.1 n0))).1, hA (n0 + 4) (Nat.le_add_right _ _) (Nat.add_lt_add_left (by decide) _)⟩
theorem cp_e5 (G : GT) (n0 : Nat) (A : Nat → Prop) (al : Bool) (z w : Nat) : fxe (cp_G G n0 A al) (cp_s0 z w) (.inl (0, 12, 120, 1)) = ea_i G.2.1 1 120 := rfl
theorem cp_a5 (G : GT) (n0 : Nat) (A : Nat → Prop) (al : Bool) : (cp_G G n0 A al).2.2.1 5 = n0 + 5 := rfl
theorem cp_l5 (ks : Nat → ClassId) (n0 : Nat) : (cp_L ks n0)[5]? = some (ea_i ks 1 120) := rfl
theorem cp_x5 {G : GT} {σ : ST} {n0 w z : Nat} {H : Heap} {A : Nat → Prop} {al : Bool} (h : Pic [] G (fil σ n0 (cp_L G.2.1 n0) w) H) (hA : ∀ q, n0 ≤ q → q < n0 + 49 → A q) : va_at (cp_G G n0 A al).1 lk_cl ((cp_G G n0 A al).2.2.1 5, fxe (cp_G G n0 A al) (cp_s0 z w) (.inl (0, 12, 120, 1))) H ∧ (cp_G G n0 A al).2.2.2.1 ((cp_G G n0 A al).2.2.1 5) := by
  rw [cp_e5, cp_a5]
  exact ⟨(h.2.2.1 (n0 + 5) _ (fil_g 5 rfl (cp_l5 G.2.1 n0))).1, hA (n0 + 5) (Nat.le_add_right _ _) (Nat.add_lt_add_left (by decide) _)⟩
theorem cp_e6 (G : GT) (n0 : Nat) (A : Nat → Prop) (al : Bool) (z w : Nat) : fxe (cp_G G n0 A al) (cp_s0 z w) (.inl (0, 16, 6, 0)) = ea_i G.2.1 0 6 := rfl
theorem cp_a6 (G : GT) (n0 : Nat) (A : Nat → Prop) (al : Bool) : (cp_G G n0 A al).2.2.1 6 = n0 + 8 := rfl
theorem cp_l6 (ks : Nat → ClassId) (n0 : Nat) : (cp_L ks n0)[8]? = some (ea_i ks 0 6) := rfl
theorem cp_x6 {G : GT} {σ : ST} {n0 w z : Nat} {H : Heap} {A : Nat → Prop} {al : Bool} (h : Pic [] G (fil σ n0 (cp_L G.2.1 n0) w) H) (hA : ∀ q, n0 ≤ q → q < n0 + 49 → A q) : va_at (cp_G G n0 A al).1 lk_cl ((cp_G G n0 A al).2.2.1 6, fxe (cp_G G n0 A al) (cp_s0 z w) (.inl (0, 16, 6, 0))) H ∧ (cp_G G n0 A al).2.2.2.1 ((cp_G G n0 A al).2.2.1 6) := by
  rw [cp_e6, cp_a6]
  exact ⟨(h.2.2.1 (n0 + 8) _ (fil_g 8 rfl (cp_l6 G.2.1 n0))).1, hA (n0 + 8) (Nat.le_add_right _ _) (Nat.add_lt_add_left (by decide) _)⟩
theorem cp_e7 (G : GT) (n0 : Nat) (A : Nat → Prop) (al : Bool) (z w : Nat) : fxe (cp_G G n0 A al) (cp_s0 z w) (.inl (0, 19, 10, 0)) = ea_i G.2.1 0 10 := rfl
theorem cp_a7 (G : GT) (n0 : Nat) (A : Nat → Prop) (al : Bool) : (cp_G G n0 A al).2.2.1 7 = n0 + 43 := rfl
theorem cp_l7 (ks : Nat → ClassId) (n0 : Nat) : (cp_L ks n0)[43]? = some (ea_i ks 0 10) := rfl
theorem cp_x7 {G : GT} {σ : ST} {n0 w z : Nat} {H : Heap} {A : Nat → Prop} {al : Bool} (h : Pic [] G (fil σ n0 (cp_L G.2.1 n0) w) H) (hA : ∀ q, n0 ≤ q → q < n0 + 49 → A q) : va_at (cp_G G n0 A al).1 lk_cl ((cp_G G n0 A al).2.2.1 7, fxe (cp_G G n0 A al) (cp_s0 z w) (.inl (0, 19, 10, 0))) H ∧ (cp_G G n0 A al).2.2.2.1 ((cp_G G n0 A al).2.2.1 7) := by
  rw [cp_e7, cp_a7]
  exact ⟨(h.2.2.1 (n0 + 43) _ (fil_g 43 rfl (cp_l7 G.2.1 n0))).1, hA (n0 + 43) (Nat.le_add_right _ _) (Nat.add_lt_add_left (by decide) _)⟩
theorem cp_e8 (G : GT) (n0 : Nat) (A : Nat → Prop) (al : Bool) (z w : Nat) : fxe (cp_G G n0 A al) (cp_s0 z w) (.inl (0, 20, 6, 0)) = ea_i G.2.1 0 6 := rfl
theorem cp_a8 (G : GT) (n0 : Nat) (A : Nat → Prop) (al : Bool) : (cp_G G n0 A al).2.2.1 8 = n0 + 44 := rfl
theorem cp_l8 (ks : Nat → ClassId) (n0 : Nat) : (cp_L ks n0)[44]? = some (ea_i ks 0 6) := rfl
theorem cp_x8 {G : GT} {σ : ST} {n0 w z : Nat} {H : Heap} {A : Nat → Prop} {al : Bool} (h : Pic [] G (fil σ n0 (cp_L G.2.1 n0) w) H) (hA : ∀ q, n0 ≤ q → q < n0 + 49 → A q) : va_at (cp_G G n0 A al).1 lk_cl ((cp_G G n0 A al).2.2.1 8, fxe (cp_G G n0 A al) (cp_s0 z w) (.inl (0, 20, 6, 0))) H ∧ (cp_G G n0 A al).2.2.2.1 ((cp_G G n0 A al).2.2.1 8) := by
  rw [cp_e8, cp_a8]
  exact ⟨(h.2.2.1 (n0 + 44) _ (fil_g 44 rfl (cp_l8 G.2.1 n0))).1, hA (n0 + 44) (Nat.le_add_right _ _) (Nat.add_lt_add_left (by decide) _)⟩
theorem cp_e9 (G : GT) (n0 : Nat) (A : Nat → Prop) (al : Bool) (z w : Nat) : fxe (cp_G G n0 A al) (cp_s0 z w) (.inl (0, 21, 10, 0)) = ea_i G.2.1 0 10 := rfl
theorem cp_a9 (G : GT) (n0 : Nat) (A : Nat → Prop) (al : Bool) : (cp_G G n0 A al).2.2.1 9 = n0 + 45 := rfl
theorem cp_l9 (ks : Nat → ClassId) (n0 : Nat) : (cp_L ks n0)[45]? = some (ea_i ks 0 10) := rfl
theorem cp_x9 {G : GT} {σ : ST} {n0 w z : Nat} {H : Heap} {A : Nat → Prop} {al : Bool} (h : Pic [] G (fil σ n0 (cp_L G.2.1 n0) w) H) (hA : ∀ q, n0 ≤ q → q < n0 + 49 → A q) : va_at (cp_G G n0 A al).1 lk_cl ((cp_G G n0 A al).2.2.1 9, fxe (cp_G G n0 A al) (cp_s0 z w) (.inl (0, 21, 10, 0))) H ∧ (cp_G G n0 A al).2.2.2.1 ((cp_G G n0 A al).2.2.1 9) := by
  rw [cp_e9, cp_a9]
  exact ⟨(h.2.2.1 (n0 + 45) _ (fil_g 45 rfl (cp_l9 G.2.1 n0))).1, hA (n0 + 45) (Nat.le_add_right _ _) (Nat.add_lt_add_left (by decide) _)⟩
theorem cp_e10 (G : GT) (n0 : Nat) (A : Nat → Prop) (al : Bool) (z w : Nat) : fxe (cp_G G n0 A al) (cp_s0 z w) (.inl (0, 30, 24, 1)) = ea_i G.2.1 1 24 := rfl
theorem cp_a10 (G : GT) (n0 : Nat) (A : Nat → Prop) (al : Bool) : (cp_G G n0 A al).2.2.1 10 = n0 + 46 := rfl
theorem cp_l10 (ks : Nat → ClassId) (n0 : Nat) : (cp_L ks n0)[46]? = some (ea_i ks 1 24) := rfl
theorem cp_x10 {G : GT} {σ : ST} {n0 w z : Nat} {H : Heap} {A : Nat → Prop} {al : Bool} (h : Pic [] G (fil σ n0 (cp_L G.2.1 n0) w) H) (hA : ∀ q, n0 ≤ q → q < n0 + 49 → A q) : va_at (cp_G G n0 A al).1 lk_cl ((cp_G G n0 A al).2.2.1 10, fxe (cp_G G n0 A al) (cp_s0 z w) (.inl (0, 30, 24, 1))) H ∧ (cp_G G n0 A al).2.2.2.1 ((cp_G G n0 A al).2.2.1 10) := by
  rw [cp_e10, cp_a10]
  exact ⟨(h.2.2.1 (n0 + 46) _ (fil_g 46 rfl (cp_l10 G.2.1 n0))).1, hA (n0 + 46) (Nat.le_add_right _ _) (Nat.add_lt_add_left (by decide) _)⟩
theorem cp_e11 (G : GT) (n0 : Nat) (A : Nat → Prop) (al : Bool) (z w : Nat) : fxe (cp_G G n0 A al) (cp_s0 z w) (.inl (0, 31, 50, 7)) = ea_q G.2.1 7 50 := rfl
theorem cp_a11 (G : GT) (n0 : Nat) (A : Nat → Prop) (al : Bool) : (cp_G G n0 A al).2.2.1 11 = n0 + 47 := rfl
theorem cp_l11 (ks : Nat → ClassId) (n0 : Nat) : (cp_L ks n0)[47]? = some (ea_q ks 7 50) := rfl
theorem cp_x11 {G : GT} {σ : ST} {n0 w z : Nat} {H : Heap} {A : Nat → Prop} {al : Bool} (h : Pic [] G (fil σ n0 (cp_L G.2.1 n0) w) H) (hA : ∀ q, n0 ≤ q → q < n0 + 49 → A q) : va_at (cp_G G n0 A al).1 lk_cl ((cp_G G n0 A al).2.2.1 11, fxe (cp_G G n0 A al) (cp_s0 z w) (.inl (0, 31, 50, 7))) H ∧ (cp_G G n0 A al).2.2.2.1 ((cp_G G n0 A al).2.2.1 11) := by
  rw [cp_e11, cp_a11]
  exact ⟨(h.2.2.1 (n0 + 47) _ (fil_g 47 rfl (cp_l11 G.2.1 n0))).1, hA (n0 + 47) (Nat.le_add_right _ _) (Nat.add_lt_add_left (by decide) _)⟩
theorem cp_e12 (G : GT) (n0 : Nat) (A : Nat → Prop) (al : Bool) (z w : Nat) : fxe (cp_G G n0 A al) (cp_s0 z w) (.inl (0, 33, 6, 8)) = ea_q G.2.1 8 6 := rfl
theorem cp_a12 (G : GT) (n0 : Nat) (A : Nat → Prop) (al : Bool) : (cp_G G n0 A al).2.2.1 12 = n0 + 48 := rfl
theorem cp_l12 (ks : Nat → ClassId) (n0 : Nat) : (cp_L ks n0)[48]? = some (ea_q ks 8 6) := rfl
theorem cp_x12 {G : GT} {σ : ST} {n0 w z : Nat} {H : Heap} {A : Nat → Prop} {al : Bool} (h : Pic [] G (fil σ n0 (cp_L G.2.1 n0) w) H) (hA : ∀ q, n0 ≤ q → q < n0 + 49 → A q) : va_at (cp_G G n0 A al).1 lk_cl ((cp_G G n0 A al).2.2.1 12, fxe (cp_G G n0 A al) (cp_s0 z w) (.inl (0, 33, 6, 8))) H ∧ (cp_G G n0 A al).2.2.2.1 ((cp_G G n0 A al).2.2.1 12) := by
  rw [cp_e12, cp_a12]
  exact ⟨(h.2.2.1 (n0 + 48) _ (fil_g 48 rfl (cp_l12 G.2.1 n0))).1, hA (n0 + 48) (Nat.le_add_right _ _) (Nat.add_lt_add_left (by decide) _)⟩
theorem cp_e13 (G : GT) (n0 : Nat) (A : Nat → Prop) (al : Bool) (z w : Nat) : fxe (cp_G G n0 A al) (cp_s0 z w) (.inr (3, 1, fa_fl)) = .inr (1, [.ref (n0 + 7)]) := by
  show (Sum.inr (_, List.mapIdx _ _) : va_E) = _
  simp only [cp_fl, fa_fl, mg_fl, tw_fl, List.mapIdx_cons, List.mapIdx_nil]
  rfl
theorem cp_a13 (G : GT) (n0 : Nat) (A : Nat → Prop) (al : Bool) : (cp_G G n0 A al).2.2.1 13 = n0 + 6 := rfl
theorem cp_l13 (ks : Nat → ClassId) (n0 : Nat) : (cp_L ks n0)[6]? = some (.inr (1, [.ref (n0 + 7)])) := rfl
theorem cp_x13 {G : GT} {σ : ST} {n0 w z : Nat} {H : Heap} {A : Nat → Prop} {al : Bool} (h : Pic [] G (fil σ n0 (cp_L G.2.1 n0) w) H) (hA : ∀ q, n0 ≤ q → q < n0 + 49 → A q) : va_at (cp_G G n0 A al).1 lk_cl ((cp_G G n0 A al).2.2.1 13, fxe (cp_G G n0 A al) (cp_s0 z w) (.inr (3, 1, fa_fl))) H ∧ (cp_G G n0 A al).2.2.2.1 ((cp_G G n0 A al).2.2.1 13) := by
  rw [cp_e13, cp_a13]
  exact ⟨(h.2.2.1 (n0 + 6) _ (fil_g 6 rfl (cp_l13 G.2.1 n0))).1, hA (n0 + 6) (Nat.le_add_right _ _) (Nat.add_lt_add_left (by decide) _)⟩
theorem cp_e14 (G : GT) (n0 : Nat) (A : Nat → Prop) (al : Bool) (z w : Nat) : fxe (cp_G G n0 A al) (cp_s0 z w) (.inl (3, 0, 128, 0)) = ea_i G.2.1 0 128 := rfl
theorem cp_a14 (G : GT) (n0 : Nat) (A : Nat → Prop) (al : Bool) : (cp_G G n0 A al).2.2.1 14 = n0 + 7 := rfl
theorem cp_l14 (ks : Nat → ClassId) (n0 : Nat) : (cp_L ks n0)[7]? = some (ea_i ks 0 128) := rfl
theorem cp_x14 {G : GT} {σ : ST} {n0 w z : Nat} {H : Heap} {A : Nat → Prop} {al : Bool} (h : Pic [] G (fil σ n0 (cp_L G.2.1 n0) w) H) (hA : ∀ q, n0 ≤ q → q < n0 + 49 → A q) : va_at (cp_G G n0 A al).1 lk_cl ((cp_G G n0 A al).2.2.1 14, fxe (cp_G G n0 A al) (cp_s0 z w) (.inl (3, 0, 128, 0))) H ∧ (cp_G G n0 A al).2.2.2.1 ((cp_G G n0 A al).2.2.1 14) := by
  rw [cp_e14, cp_a14]
  exact ⟨(h.2.2.1 (n0 + 7) _ (fil_g 7 rfl (cp_l14 G.2.1 n0))).1, hA (n0 + 7) (Nat.le_add_right _ _) (Nat.add_lt_add_left (by decide) _)⟩
theorem cp_e15 (G : GT) (n0 : Nat) (A : Nat → Prop) (al : Bool) (z w : Nat) : fxe (cp_G G n0 A al) (cp_s0 z w) (.inr (1, 2, mg_fl 0)) = .inr (2, [.ref (n0 + 10), .ref (n0 + 11), .ref (n0 + 12), .ref (n0 + 13), .ref (n0 + 14), .ref (n0 + 15), .ref (n0 + 16), .ref (n0 + 17), .ref (n0 + 18), .ref (n0 + 19), .ref (n0 + 20), .ref (n0 + 21), .ref (n0 + 22), .ref (n0 + 23), .ref (n0 + 24), .ref (n0 + 25), .int 0, .int 0, .int 0, .int 0, .int 0, .ref n0]) := by
  show (Sum.inr (_, List.mapIdx _ _) : va_E) = _
  simp only [cp_fl, fa_fl, mg_fl, tw_fl, List.mapIdx_cons, List.mapIdx_nil]
  rfl
theorem cp_a15 (G : GT) (n0 : Nat) (A : Nat → Prop) (al : Bool) : (cp_G G n0 A al).2.2.1 15 = n0 + 9 := rfl
theorem cp_l15 (ks : Nat → ClassId) (n0 : Nat) : (cp_L ks n0)[9]? = some (.inr (2, [.ref (n0 + 10), .ref (n0 + 11), .ref (n0 + 12), .ref (n0 + 13), .ref (n0 + 14), .ref (n0 + 15), .ref (n0 + 16), .ref (n0 + 17), .ref (n0 + 18), .ref (n0 + 19), .ref (n0 + 20), .ref (n0 + 21), .ref (n0 + 22), .ref (n0 + 23), .ref (n0 + 24), .ref (n0 + 25), .int 0, .int 0, .int 0, .int 0, .int 0, .ref n0])) := rfl
theorem cp_x15 {G : GT} {σ : ST} {n0 w z : Nat} {H : Heap} {A : Nat → Prop} {al : Bool} (h : Pic [] G (fil σ n0 (cp_L G.2.1 n0) w) H) (hA : ∀ q, n0 ≤ q → q < n0 + 49 → A q) : va_at (cp_G G n0 A al).1 lk_cl ((cp_G G n0 A al).2.2.1 15, fxe (cp_G G n0 A al) (cp_s0 z w) (.inr (1, 2, mg_fl 0))) H ∧ (cp_G G n0 A al).2.2.2.1 ((cp_G G n0 A al).2.2.1 15) := by
  rw [cp_e15, cp_a15]
  exact ⟨(h.2.2.1 (n0 + 9) _ (fil_g 9 rfl (cp_l15 G.2.1 n0))).1, hA (n0 + 9) (Nat.le_add_right _ _) (Nat.add_lt_add_left (by decide) _)⟩
theorem cp_e16 (G : GT) (n0 : Nat) (A : Nat → Prop) (al : Bool) (z w : Nat) : fxe (cp_G G n0 A al) (cp_s0 z w) (.inl (1, 0, 6, 0)) = ea_i G.2.1 0 6 := rfl
theorem cp_a16 (G : GT) (n0 : Nat) (A : Nat → Prop) (al : Bool) : (cp_G G n0 A al).2.2.1 16 = n0 + 10 := rfl
theorem cp_l16 (ks : Nat → ClassId) (n0 : Nat) : (cp_L ks n0)[10]? = some (ea_i ks 0 6) := rfl
theorem cp_x16 {G : GT} {σ : ST} {n0 w z : Nat} {H : Heap} {A : Nat → Prop} {al : Bool} (h : Pic [] G (fil σ n0 (cp_L G.2.1 n0) w) H) (hA : ∀ q, n0 ≤ q → q < n0 + 49 → A q) : va_at (cp_G G n0 A al).1 lk_cl ((cp_G G n0 A al).2.2.1 16, fxe (cp_G G n0 A al) (cp_s0 z w) (.inl (1, 0, 6, 0))) H ∧ (cp_G G n0 A al).2.2.2.1 ((cp_G G n0 A al).2.2.1 16) := by
  rw [cp_e16, cp_a16]
  exact ⟨(h.2.2.1 (n0 + 10) _ (fil_g 10 rfl (cp_l16 G.2.1 n0))).1, hA (n0 + 10) (Nat.le_add_right _ _) (Nat.add_lt_add_left (by decide) _)⟩
theorem cp_e17 (G : GT) (n0 : Nat) (A : Nat → Prop) (al : Bool) (z w : Nat) : fxe (cp_G G n0 A al) (cp_s0 z w) (.inl (1, 1, 200, 0)) = ea_i G.2.1 0 200 := rfl
theorem cp_a17 (G : GT) (n0 : Nat) (A : Nat → Prop) (al : Bool) : (cp_G G n0 A al).2.2.1 17 = n0 + 11 := rfl
theorem cp_l17 (ks : Nat → ClassId) (n0 : Nat) : (cp_L ks n0)[11]? = some (ea_i ks 0 200) := rfl
theorem cp_x17 {G : GT} {σ : ST} {n0 w z : Nat} {H : Heap} {A : Nat → Prop} {al : Bool} (h : Pic [] G (fil σ n0 (cp_L G.2.1 n0) w) H) (hA : ∀ q, n0 ≤ q → q < n0 + 49 → A q) : va_at (cp_G G n0 A al).1 lk_cl ((cp_G G n0 A al).2.2.1 17, fxe (cp_G G n0 A al) (cp_s0 z w) (.inl (1, 1, 200, 0))) H ∧ (cp_G G n0 A al).2.2.2.1 ((cp_G G n0 A al).2.2.1 17) := by
  rw [cp_e17, cp_a17]
  exact ⟨(h.2.2.1 (n0 + 11) _ (fil_g 11 rfl (cp_l17 G.2.1 n0))).1, hA (n0 + 11) (Nat.le_add_right _ _) (Nat.add_lt_add_left (by decide) _)⟩
theorem cp_e18 (G : GT) (n0 : Nat) (A : Nat → Prop) (al : Bool) (z w : Nat) : fxe (cp_G G n0 A al) (cp_s0 z w) (.inl (1, 2, 200, 0)) = ea_i G.2.1 0 200 := rfl
theorem cp_a18 (G : GT) (n0 : Nat) (A : Nat → Prop) (al : Bool) : (cp_G G n0 A al).2.2.1 18 = n0 + 12 := rfl
theorem cp_l18 (ks : Nat → ClassId) (n0 : Nat) : (cp_L ks n0)[12]? = some (ea_i ks 0 200) := rfl
theorem cp_x18 {G : GT} {σ : ST} {n0 w z : Nat} {H : Heap} {A : Nat → Prop} {al : Bool} (h : Pic [] G (fil σ n0 (cp_L G.2.1 n0) w) H) (hA : ∀ q, n0 ≤ q → q < n0 + 49 → A q) : va_at (cp_G G n0 A al).1 lk_cl ((cp_G G n0 A al).2.2.1 18, fxe (cp_G G n0 A al) (cp_s0 z w) (.inl (1, 2, 200, 0))) H ∧ (cp_G G n0 A al).2.2.2.1 ((cp_G G n0 A al).2.2.1 18) := by
  rw [cp_e18, cp_a18]
  exact ⟨(h.2.2.1 (n0 + 12) _ (fil_g 12 rfl (cp_l18 G.2.1 n0))).1, hA (n0 + 12) (Nat.le_add_right _ _) (Nat.add_lt_add_left (by decide) _)⟩
theorem cp_e19 (G : GT) (n0 : Nat) (A : Nat → Prop) (al : Bool) (z w : Nat) : fxe (cp_G G n0 A al) (cp_s0 z w) (.inl (1, 3, 200, 0)) = ea_i G.2.1 0 200 := rfl
theorem cp_a19 (G : GT) (n0 : Nat) (A : Nat → Prop) (al : Bool) : (cp_G G n0 A al).2.2.1 19 = n0 + 13 := rfl
theorem cp_l19 (ks : Nat → ClassId) (n0 : Nat) : (cp_L ks n0)[13]? = some (ea_i ks 0 200) := rfl
theorem cp_x19 {G : GT} {σ : ST} {n0 w z : Nat} {H : Heap} {A : Nat → Prop} {al : Bool} (h : Pic [] G (fil σ n0 (cp_L G.2.1 n0) w) H) (hA : ∀ q, n0 ≤ q → q < n0 + 49 → A q) : va_at (cp_G G n0 A al).1 lk_cl ((cp_G G n0 A al).2.2.1 19, fxe (cp_G G n0 A al) (cp_s0 z w) (.inl (1, 3, 200, 0))) H ∧ (cp_G G n0 A al).2.2.2.1 ((cp_G G n0 A al).2.2.1 19) := by
  rw [cp_e19, cp_a19]
  exact ⟨(h.2.2.1 (n0 + 13) _ (fil_g 13 rfl (cp_l19 G.2.1 n0))).1, hA (n0 + 13) (Nat.le_add_right _ _) (Nat.add_lt_add_left (by decide) _)⟩
theorem cp_e20 (G : GT) (n0 : Nat) (A : Nat → Prop) (al : Bool) (z w : Nat) : fxe (cp_G G n0 A al) (cp_s0 z w) (.inl (1, 4, 200, 0)) = ea_i G.2.1 0 200 := rfl
theorem cp_a20 (G : GT) (n0 : Nat) (A : Nat → Prop) (al : Bool) : (cp_G G n0 A al).2.2.1 20 = n0 + 14 := rfl
theorem cp_l20 (ks : Nat → ClassId) (n0 : Nat) : (cp_L ks n0)[14]? = some (ea_i ks 0 200) := rfl
theorem cp_x20 {G : GT} {σ : ST} {n0 w z : Nat} {H : Heap} {A : Nat → Prop} {al : Bool} (h : Pic [] G (fil σ n0 (cp_L G.2.1 n0) w) H) (hA : ∀ q, n0 ≤ q → q < n0 + 49 → A q) : va_at (cp_G G n0 A al).1 lk_cl ((cp_G G n0 A al).2.2.1 20, fxe (cp_G G n0 A al) (cp_s0 z w) (.inl (1, 4, 200, 0))) H ∧ (cp_G G n0 A al).2.2.2.1 ((cp_G G n0 A al).2.2.1 20) := by
  rw [cp_e20, cp_a20]
  exact ⟨(h.2.2.1 (n0 + 14) _ (fil_g 14 rfl (cp_l20 G.2.1 n0))).1, hA (n0 + 14) (Nat.le_add_right _ _) (Nat.add_lt_add_left (by decide) _)⟩
theorem cp_e21 (G : GT) (n0 : Nat) (A : Nat → Prop) (al : Bool) (z w : Nat) : fxe (cp_G G n0 A al) (cp_s0 z w) (.inl (1, 5, 200, 0)) = ea_i G.2.1 0 200 := rfl
theorem cp_a21 (G : GT) (n0 : Nat) (A : Nat → Prop) (al : Bool) : (cp_G G n0 A al).2.2.1 21 = n0 + 15 := rfl
theorem cp_l21 (ks : Nat → ClassId) (n0 : Nat) : (cp_L ks n0)[15]? = some (ea_i ks 0 200) := rfl
theorem cp_x21 {G : GT} {σ : ST} {n0 w z : Nat} {H : Heap} {A : Nat → Prop} {al : Bool} (h : Pic [] G (fil σ n0 (cp_L G.2.1 n0) w) H) (hA : ∀ q, n0 ≤ q → q < n0 + 49 → A q) : va_at (cp_G G n0 A al).1 lk_cl ((cp_G G n0 A al).2.2.1 21, fxe (cp_G G n0 A al) (cp_s0 z w) (.inl (1, 5, 200, 0))) H ∧ (cp_G G n0 A al).2.2.2.1 ((cp_G G n0 A al).2.2.1 21) := by
  rw [cp_e21, cp_a21]
  exact ⟨(h.2.2.1 (n0 + 15) _ (fil_g 15 rfl (cp_l21 G.2.1 n0))).1, hA (n0 + 15) (Nat.le_add_right _ _) (Nat.add_lt_add_left (by decide) _)⟩
theorem cp_e22 (G : GT) (n0 : Nat) (A : Nat → Prop) (al : Bool) (z w : Nat) : fxe (cp_G G n0 A al) (cp_s0 z w) (.inl (1, 6, 200, 0)) = ea_i G.2.1 0 200 := rfl
theorem cp_a22 (G : GT) (n0 : Nat) (A : Nat → Prop) (al : Bool) : (cp_G G n0 A al).2.2.1 22 = n0 + 16 := rfl
theorem cp_l22 (ks : Nat → ClassId) (n0 : Nat) : (cp_L ks n0)[16]? = some (ea_i ks 0 200) := rfl
theorem cp_x22 {G : GT} {σ : ST} {n0 w z : Nat} {H : Heap} {A : Nat → Prop} {al : Bool} (h : Pic [] G (fil σ n0 (cp_L G.2.1 n0) w) H) (hA : ∀ q, n0 ≤ q → q < n0 + 49 → A q) : va_at (cp_G G n0 A al).1 lk_cl ((cp_G G n0 A al).2.2.1 22, fxe (cp_G G n0 A al) (cp_s0 z w) (.inl (1, 6, 200, 0))) H ∧ (cp_G G n0 A al).2.2.2.1 ((cp_G G n0 A al).2.2.1 22) := by
  rw [cp_e22, cp_a22]
  exact ⟨(h.2.2.1 (n0 + 16) _ (fil_g 16 rfl (cp_l22 G.2.1 n0))).1, hA (n0 + 16) (Nat.le_add_right _ _) (Nat.add_lt_add_left (by decide) _)⟩
theorem cp_e23 (G : GT) (n0 : Nat) (A : Nat → Prop) (al : Bool) (z w : Nat) : fxe (cp_G G n0 A al) (cp_s0 z w) (.inl (1, 7, 200, 0)) = ea_i G.2.1 0 200 := rfl
theorem cp_a23 (G : GT) (n0 : Nat) (A : Nat → Prop) (al : Bool) : (cp_G G n0 A al).2.2.1 23 = n0 + 17 := rfl
theorem cp_l23 (ks : Nat → ClassId) (n0 : Nat) : (cp_L ks n0)[17]? = some (ea_i ks 0 200) := rfl
theorem cp_x23 {G : GT} {σ : ST} {n0 w z : Nat} {H : Heap} {A : Nat → Prop} {al : Bool} (h : Pic [] G (fil σ n0 (cp_L G.2.1 n0) w) H) (hA : ∀ q, n0 ≤ q → q < n0 + 49 → A q) : va_at (cp_G G n0 A al).1 lk_cl ((cp_G G n0 A al).2.2.1 23, fxe (cp_G G n0 A al) (cp_s0 z w) (.inl (1, 7, 200, 0))) H ∧ (cp_G G n0 A al).2.2.2.1 ((cp_G G n0 A al).2.2.1 23) := by
  rw [cp_e23, cp_a23]
  exact ⟨(h.2.2.1 (n0 + 17) _ (fil_g 17 rfl (cp_l23 G.2.1 n0))).1, hA (n0 + 17) (Nat.le_add_right _ _) (Nat.add_lt_add_left (by decide) _)⟩
theorem cp_e24 (G : GT) (n0 : Nat) (A : Nat → Prop) (al : Bool) (z w : Nat) : fxe (cp_G G n0 A al) (cp_s0 z w) (.inl (1, 8, 20, 0)) = ea_i G.2.1 0 20 := rfl
theorem cp_a24 (G : GT) (n0 : Nat) (A : Nat → Prop) (al : Bool) : (cp_G G n0 A al).2.2.1 24 = n0 + 18 := rfl
theorem cp_l24 (ks : Nat → ClassId) (n0 : Nat) : (cp_L ks n0)[18]? = some (ea_i ks 0 20) := rfl
theorem cp_x24 {G : GT} {σ : ST} {n0 w z : Nat} {H : Heap} {A : Nat → Prop} {al : Bool} (h : Pic [] G (fil σ n0 (cp_L G.2.1 n0) w) H) (hA : ∀ q, n0 ≤ q → q < n0 + 49 → A q) : va_at (cp_G G n0 A al).1 lk_cl ((cp_G G n0 A al).2.2.1 24, fxe (cp_G G n0 A al) (cp_s0 z w) (.inl (1, 8, 20, 0))) H ∧ (cp_G G n0 A al).2.2.2.1 ((cp_G G n0 A al).2.2.1 24) := by
  rw [cp_e24, cp_a24]
  exact ⟨(h.2.2.1 (n0 + 18) _ (fil_g 18 rfl (cp_l24 G.2.1 n0))).1, hA (n0 + 18) (Nat.le_add_right _ _) (Nat.add_lt_add_left (by decide) _)⟩
theorem cp_e25 (G : GT) (n0 : Nat) (A : Nat → Prop) (al : Bool) (z w : Nat) : fxe (cp_G G n0 A al) (cp_s0 z w) (.inl (1, 9, 20, 0)) = ea_i G.2.1 0 20 := rfl
theorem cp_a25 (G : GT) (n0 : Nat) (A : Nat → Prop) (al : Bool) : (cp_G G n0 A al).2.2.1 25 = n0 + 19 := rfl
theorem cp_l25 (ks : Nat → ClassId) (n0 : Nat) : (cp_L ks n0)[19]? = some (ea_i ks 0 20) := rfl
theorem cp_x25 {G : GT} {σ : ST} {n0 w z : Nat} {H : Heap} {A : Nat → Prop} {al : Bool} (h : Pic [] G (fil σ n0 (cp_L G.2.1 n0) w) H) (hA : ∀ q, n0 ≤ q → q < n0 + 49 → A q) : va_at (cp_G G n0 A al).1 lk_cl ((cp_G G n0 A al).2.2.1 25, fxe (cp_G G n0 A al) (cp_s0 z w) (.inl (1, 9, 20, 0))) H ∧ (cp_G G n0 A al).2.2.2.1 ((cp_G G n0 A al).2.2.1 25) := by
  rw [cp_e25, cp_a25]
  exact ⟨(h.2.2.1 (n0 + 19) _ (fil_g 19 rfl (cp_l25 G.2.1 n0))).1, hA (n0 + 19) (Nat.le_add_right _ _) (Nat.add_lt_add_left (by decide) _)⟩
theorem cp_e26 (G : GT) (n0 : Nat) (A : Nat → Prop) (al : Bool) (z w : Nat) : fxe (cp_G G n0 A al) (cp_s0 z w) (.inl (1, 10, 10, 0)) = ea_i G.2.1 0 10 := rfl
theorem cp_a26 (G : GT) (n0 : Nat) (A : Nat → Prop) (al : Bool) : (cp_G G n0 A al).2.2.1 26 = n0 + 20 := rfl
theorem cp_l26 (ks : Nat → ClassId) (n0 : Nat) : (cp_L ks n0)[20]? = some (ea_i ks 0 10) := rfl
theorem cp_x26 {G : GT} {σ : ST} {n0 w z : Nat} {H : Heap} {A : Nat → Prop} {al : Bool} (h : Pic [] G (fil σ n0 (cp_L G.2.1 n0) w) H) (hA : ∀ q, n0 ≤ q → q < n0 + 49 → A q) : va_at (cp_G G n0 A al).1 lk_cl ((cp_G G n0 A al).2.2.1 26, fxe (cp_G G n0 A al) (cp_s0 z w) (.inl (1, 10, 10, 0))) H ∧ (cp_G G n0 A al).2.2.2.1 ((cp_G G n0 A al).2.2.1 26) := by
  rw [cp_e26, cp_a26]
  exact ⟨(h.2.2.1 (n0 + 20) _ (fil_g 20 rfl (cp_l26 G.2.1 n0))).1, hA (n0 + 20) (Nat.le_add_right _ _) (Nat.add_lt_add_left (by decide) _)⟩
theorem cp_e27 (G : GT) (n0 : Nat) (A : Nat → Prop) (al : Bool) (z w : Nat) : fxe (cp_G G n0 A al) (cp_s0 z w) (.inl (1, 11, 10, 0)) = ea_i G.2.1 0 10 := rfl
theorem cp_a27 (G : GT) (n0 : Nat) (A : Nat → Prop) (al : Bool) : (cp_G G n0 A al).2.2.1 27 = n0 + 21 := rfl
theorem cp_l27 (ks : Nat → ClassId) (n0 : Nat) : (cp_L ks n0)[21]? = some (ea_i ks 0 10) := rfl
theorem cp_x27 {G : GT} {σ : ST} {n0 w z : Nat} {H : Heap} {A : Nat → Prop} {al : Bool} (h : Pic [] G (fil σ n0 (cp_L G.2.1 n0) w) H) (hA : ∀ q, n0 ≤ q → q < n0 + 49 → A q) : va_at (cp_G G n0 A al).1 lk_cl ((cp_G G n0 A al).2.2.1 27, fxe (cp_G G n0 A al) (cp_s0 z w) (.inl (1, 11, 10, 0))) H ∧ (cp_G G n0 A al).2.2.2.1 ((cp_G G n0 A al).2.2.1 27) := by
  rw [cp_e27, cp_a27]
  exact ⟨(h.2.2.1 (n0 + 21) _ (fil_g 21 rfl (cp_l27 G.2.1 n0))).1, hA (n0 + 21) (Nat.le_add_right _ _) (Nat.add_lt_add_left (by decide) _)⟩
theorem cp_e28 (G : GT) (n0 : Nat) (A : Nat → Prop) (al : Bool) (z w : Nat) : fxe (cp_G G n0 A al) (cp_s0 z w) (.inl (1, 12, 10, 0)) = ea_i G.2.1 0 10 := rfl
theorem cp_a28 (G : GT) (n0 : Nat) (A : Nat → Prop) (al : Bool) : (cp_G G n0 A al).2.2.1 28 = n0 + 22 := rfl
theorem cp_l28 (ks : Nat → ClassId) (n0 : Nat) : (cp_L ks n0)[22]? = some (ea_i ks 0 10) := rfl
theorem cp_x28 {G : GT} {σ : ST} {n0 w z : Nat} {H : Heap} {A : Nat → Prop} {al : Bool} (h : Pic [] G (fil σ n0 (cp_L G.2.1 n0) w) H) (hA : ∀ q, n0 ≤ q → q < n0 + 49 → A q) : va_at (cp_G G n0 A al).1 lk_cl ((cp_G G n0 A al).2.2.1 28, fxe (cp_G G n0 A al) (cp_s0 z w) (.inl (1, 12, 10, 0))) H ∧ (cp_G G n0 A al).2.2.2.1 ((cp_G G n0 A al).2.2.1 28) := by
  rw [cp_e28, cp_a28]
  exact ⟨(h.2.2.1 (n0 + 22) _ (fil_g 22 rfl (cp_l28 G.2.1 n0))).1, hA (n0 + 22) (Nat.le_add_right _ _) (Nat.add_lt_add_left (by decide) _)⟩
theorem cp_e29 (G : GT) (n0 : Nat) (A : Nat → Prop) (al : Bool) (z w : Nat) : fxe (cp_G G n0 A al) (cp_s0 z w) (.inl (1, 13, 10, 0)) = ea_i G.2.1 0 10 := rfl
theorem cp_a29 (G : GT) (n0 : Nat) (A : Nat → Prop) (al : Bool) : (cp_G G n0 A al).2.2.1 29 = n0 + 23 := rfl
theorem cp_l29 (ks : Nat → ClassId) (n0 : Nat) : (cp_L ks n0)[23]? = some (ea_i ks 0 10) := rfl
theorem cp_x29 {G : GT} {σ : ST} {n0 w z : Nat} {H : Heap} {A : Nat → Prop} {al : Bool} (h : Pic [] G (fil σ n0 (cp_L G.2.1 n0) w) H) (hA : ∀ q, n0 ≤ q → q < n0 + 49 → A q) : va_at (cp_G G n0 A al).1 lk_cl ((cp_G G n0 A al).2.2.1 29, fxe (cp_G G n0 A al) (cp_s0 z w) (.inl (1, 13, 10, 0))) H ∧ (cp_G G n0 A al).2.2.2.1 ((cp_G G n0 A al).2.2.1 29) := by
  rw [cp_e29, cp_a29]
  exact ⟨(h.2.2.1 (n0 + 23) _ (fil_g 23 rfl (cp_l29 G.2.1 n0))).1, hA (n0 + 23) (Nat.le_add_right _ _) (Nat.add_lt_add_left (by decide) _)⟩
theorem cp_e30 (G : GT) (n0 : Nat) (A : Nat → Prop) (al : Bool) (z w : Nat) : fxe (cp_G G n0 A al) (cp_s0 z w) (.inl (1, 14, 10, 0)) = ea_i G.2.1 0 10 := rfl
theorem cp_a30 (G : GT) (n0 : Nat) (A : Nat → Prop) (al : Bool) : (cp_G G n0 A al).2.2.1 30 = n0 + 24 := rfl
theorem cp_l30 (ks : Nat → ClassId) (n0 : Nat) : (cp_L ks n0)[24]? = some (ea_i ks 0 10) := rfl
theorem cp_x30 {G : GT} {σ : ST} {n0 w z : Nat} {H : Heap} {A : Nat → Prop} {al : Bool} (h : Pic [] G (fil σ n0 (cp_L G.2.1 n0) w) H) (hA : ∀ q, n0 ≤ q → q < n0 + 49 → A q) : va_at (cp_G G n0 A al).1 lk_cl ((cp_G G n0 A al).2.2.1 30, fxe (cp_G G n0 A al) (cp_s0 z w) (.inl (1, 14, 10, 0))) H ∧ (cp_G G n0 A al).2.2.2.1 ((cp_G G n0 A al).2.2.1 30) := by
  rw [cp_e30, cp_a30]
  exact ⟨(h.2.2.1 (n0 + 24) _ (fil_g 24 rfl (cp_l30 G.2.1 n0))).1, hA (n0 + 24) (Nat.le_add_right _ _) (Nat.add_lt_add_left (by decide) _)⟩
theorem cp_e31 (G : GT) (n0 : Nat) (A : Nat → Prop) (al : Bool) (z w : Nat) : fxe (cp_G G n0 A al) (cp_s0 z w) (.inl (1, 15, 10, 0)) = ea_i G.2.1 0 10 := rfl
theorem cp_a31 (G : GT) (n0 : Nat) (A : Nat → Prop) (al : Bool) : (cp_G G n0 A al).2.2.1 31 = n0 + 25 := rfl
theorem cp_l31 (ks : Nat → ClassId) (n0 : Nat) : (cp_L ks n0)[25]? = some (ea_i ks 0 10) := rfl
theorem cp_x31 {G : GT} {σ : ST} {n0 w z : Nat} {H : Heap} {A : Nat → Prop} {al : Bool} (h : Pic [] G (fil σ n0 (cp_L G.2.1 n0) w) H) (hA : ∀ q, n0 ≤ q → q < n0 + 49 → A q) : va_at (cp_G G n0 A al).1 lk_cl ((cp_G G n0 A al).2.2.1 31, fxe (cp_G G n0 A al) (cp_s0 z w) (.inl (1, 15, 10, 0))) H ∧ (cp_G G n0 A al).2.2.2.1 ((cp_G G n0 A al).2.2.1 31) := by
  rw [cp_e31, cp_a31]
  exact ⟨(h.2.2.1 (n0 + 25) _ (fil_g 25 rfl (cp_l31 G.2.1 n0))).1, hA (n0 + 25) (Nat.le_add_right _ _) (Nat.add_lt_add_left (by decide) _)⟩
theorem cp_e32 (G : GT) (n0 : Nat) (A : Nat → Prop) (al : Bool) (z w : Nat) : fxe (cp_G G n0 A al) (cp_s0 z w) (.inr (2, 2, mg_fl 1)) = .inr (2, [.ref (n0 + 27), .ref (n0 + 28), .ref (n0 + 29), .ref (n0 + 30), .ref (n0 + 31), .ref (n0 + 32), .ref (n0 + 33), .ref (n0 + 34), .ref (n0 + 35), .ref (n0 + 36), .ref (n0 + 37), .ref (n0 + 38), .ref (n0 + 39), .ref (n0 + 40), .ref (n0 + 41), .ref (n0 + 42), .int 0, .int 0, .int 0, .int 0, .int 0, .ref n0]) := by
  show (Sum.inr (_, List.mapIdx _ _) : va_E) = _
  simp only [cp_fl, fa_fl, mg_fl, tw_fl, List.mapIdx_cons, List.mapIdx_nil]
  rfl
theorem cp_a32 (G : GT) (n0 : Nat) (A : Nat → Prop) (al : Bool) : (cp_G G n0 A al).2.2.1 32 = n0 + 26 := rfl
theorem cp_l32 (ks : Nat → ClassId) (n0 : Nat) : (cp_L ks n0)[26]? = some (.inr (2, [.ref (n0 + 27), .ref (n0 + 28), .ref (n0 + 29), .ref (n0 + 30), .ref (n0 + 31), .ref (n0 + 32), .ref (n0 + 33), .ref (n0 + 34), .ref (n0 + 35), .ref (n0 + 36), .ref (n0 + 37), .ref (n0 + 38), .ref (n0 + 39), .ref (n0 + 40), .ref (n0 + 41), .ref (n0 + 42), .int 0, .int 0, .int 0, .int 0, .int 0, .ref n0])) := rfl
theorem cp_x32 {G : GT} {σ : ST} {n0 w z : Nat} {H : Heap} {A : Nat → Prop} {al : Bool} (h : Pic [] G (fil σ n0 (cp_L G.2.1 n0) w) H) (hA : ∀ q, n0 ≤ q → q < n0 + 49 → A q) : va_at (cp_G G n0 A al).1 lk_cl ((cp_G G n0 A al).2.2.1 32, fxe (cp_G G n0 A al) (cp_s0 z w) (.inr (2, 2, mg_fl 1))) H ∧ (cp_G G n0 A al).2.2.2.1 ((cp_G G n0 A al).2.2.1 32) := by
  rw [cp_e32, cp_a32]
  exact ⟨(h.2.2.1 (n0 + 26) _ (fil_g 26 rfl (cp_l32 G.2.1 n0))).1, hA (n0 + 26) (Nat.le_add_right _ _) (Nat.add_lt_add_left (by decide) _)⟩
theorem cp_e33 (G : GT) (n0 : Nat) (A : Nat → Prop) (al : Bool) (z w : Nat) : fxe (cp_G G n0 A al) (cp_s0 z w) (.inl (2, 0, 6, 0)) = ea_i G.2.1 0 6 := rfl
theorem cp_a33 (G : GT) (n0 : Nat) (A : Nat → Prop) (al : Bool) : (cp_G G n0 A al).2.2.1 33 = n0 + 27 := rfl
theorem cp_l33 (ks : Nat → ClassId) (n0 : Nat) : (cp_L ks n0)[27]? = some (ea_i ks 0 6) := rfl
theorem cp_x33 {G : GT} {σ : ST} {n0 w z : Nat} {H : Heap} {A : Nat → Prop} {al : Bool} (h : Pic [] G (fil σ n0 (cp_L G.2.1 n0) w) H) (hA : ∀ q, n0 ≤ q → q < n0 + 49 → A q) : va_at (cp_G G n0 A al).1 lk_cl ((cp_G G n0 A al).2.2.1 33, fxe (cp_G G n0 A al) (cp_s0 z w) (.inl (2, 0, 6, 0))) H ∧ (cp_G G n0 A al).2.2.2.1 ((cp_G G n0 A al).2.2.1 33) := by
  rw [cp_e33, cp_a33]
  exact ⟨(h.2.2.1 (n0 + 27) _ (fil_g 27 rfl (cp_l33 G.2.1 n0))).1, hA (n0 + 27) (Nat.le_add_right _ _) (Nat.add_lt_add_left (by decide) _)⟩
theorem cp_e34 (G : GT) (n0 : Nat) (A : Nat → Prop) (al : Bool) (z w : Nat) : fxe (cp_G G n0 A al) (cp_s0 z w) (.inl (2, 1, 200, 0)) = ea_i G.2.1 0 200 := rfl
theorem cp_a34 (G : GT) (n0 : Nat) (A : Nat → Prop) (al : Bool) : (cp_G G n0 A al).2.2.1 34 = n0 + 28 := rfl
theorem cp_l34 (ks : Nat → ClassId) (n0 : Nat) : (cp_L ks n0)[28]? = some (ea_i ks 0 200) := rfl
theorem cp_x34 {G : GT} {σ : ST} {n0 w z : Nat} {H : Heap} {A : Nat → Prop} {al : Bool} (h : Pic [] G (fil σ n0 (cp_L G.2.1 n0) w) H) (hA : ∀ q, n0 ≤ q → q < n0 + 49 → A q) : va_at (cp_G G n0 A al).1 lk_cl ((cp_G G n0 A al).2.2.1 34, fxe (cp_G G n0 A al) (cp_s0 z w) (.inl (2, 1, 200, 0))) H ∧ (cp_G G n0 A al).2.2.2.1 ((cp_G G n0 A al).2.2.1 34) := by
  rw [cp_e34, cp_a34]
  exact ⟨(h.2.2.1 (n0 + 28) _ (fil_g 28 rfl (cp_l34 G.2.1 n0))).1, hA (n0 + 28) (Nat.le_add_right _ _) (Nat.add_lt_add_left (by decide) _)⟩
theorem cp_e35 (G : GT) (n0 : Nat) (A : Nat → Prop) (al : Bool) (z w : Nat) : fxe (cp_G G n0 A al) (cp_s0 z w) (.inl (2, 2, 200, 0)) = ea_i G.2.1 0 200 := rfl
theorem cp_a35 (G : GT) (n0 : Nat) (A : Nat → Prop) (al : Bool) : (cp_G G n0 A al).2.2.1 35 = n0 + 29 := rfl
theorem cp_l35 (ks : Nat → ClassId) (n0 : Nat) : (cp_L ks n0)[29]? = some (ea_i ks 0 200) := rfl
theorem cp_x35 {G : GT} {σ : ST} {n0 w z : Nat} {H : Heap} {A : Nat → Prop} {al : Bool} (h : Pic [] G (fil σ n0 (cp_L G.2.1 n0) w) H) (hA : ∀ q, n0 ≤ q → q < n0 + 49 → A q) : va_at (cp_G G n0 A al).1 lk_cl ((cp_G G n0 A al).2.2.1 35, fxe (cp_G G n0 A al) (cp_s0 z w) (.inl (2, 2, 200, 0))) H ∧ (cp_G G n0 A al).2.2.2.1 ((cp_G G n0 A al).2.2.1 35) := by
  rw [cp_e35, cp_a35]
  exact ⟨(h.2.2.1 (n0 + 29) _ (fil_g 29 rfl (cp_l35 G.2.1 n0))).1, hA (n0 + 29) (Nat.le_add_right _ _) (Nat.add_lt_add_left (by decide) _)⟩
theorem cp_e36 (G : GT) (n0 : Nat) (A : Nat → Prop) (al : Bool) (z w : Nat) : fxe (cp_G G n0 A al) (cp_s0 z w) (.inl (2, 3, 200, 0)) = ea_i G.2.1 0 200 := rfl
theorem cp_a36 (G : GT) (n0 : Nat) (A : Nat → Prop) (al : Bool) : (cp_G G n0 A al).2.2.1 36 = n0 + 30 := rfl
theorem cp_l36 (ks : Nat → ClassId) (n0 : Nat) : (cp_L ks n0)[30]? = some (ea_i ks 0 200) := rfl
theorem cp_x36 {G : GT} {σ : ST} {n0 w z : Nat} {H : Heap} {A : Nat → Prop} {al : Bool} (h : Pic [] G (fil σ n0 (cp_L G.2.1 n0) w) H) (hA : ∀ q, n0 ≤ q → q < n0 + 49 → A q) : va_at (cp_G G n0 A al).1 lk_cl ((cp_G G n0 A al).2.2.1 36, fxe (cp_G G n0 A al) (cp_s0 z w) (.inl (2, 3, 200, 0))) H ∧ (cp_G G n0 A al).2.2.2.1 ((cp_G G n0 A al).2.2.1 36) := by
  rw [cp_e36, cp_a36]
  exact ⟨(h.2.2.1 (n0 + 30) _ (fil_g 30 rfl (cp_l36 G.2.1 n0))).1, hA (n0 + 30) (Nat.le_add_right _ _) (Nat.add_lt_add_left (by decide) _)⟩
theorem cp_e37 (G : GT) (n0 : Nat) (A : Nat → Prop) (al : Bool) (z w : Nat) : fxe (cp_G G n0 A al) (cp_s0 z w) (.inl (2, 4, 200, 0)) = ea_i G.2.1 0 200 := rfl
theorem cp_a37 (G : GT) (n0 : Nat) (A : Nat → Prop) (al : Bool) : (cp_G G n0 A al).2.2.1 37 = n0 + 31 := rfl
theorem cp_l37 (ks : Nat → ClassId) (n0 : Nat) : (cp_L ks n0)[31]? = some (ea_i ks 0 200) := rfl
theorem cp_x37 {G : GT} {σ : ST} {n0 w z : Nat} {H : Heap} {A : Nat → Prop} {al : Bool} (h : Pic [] G (fil σ n0 (cp_L G.2.1 n0) w) H) (hA : ∀ q, n0 ≤ q → q < n0 + 49 → A q) : va_at (cp_G G n0 A al).1 lk_cl ((cp_G G n0 A al).2.2.1 37, fxe (cp_G G n0 A al) (cp_s0 z w) (.inl (2, 4, 200, 0))) H ∧ (cp_G G n0 A al).2.2.2.1 ((cp_G G n0 A al).2.2.1 37) := by
  rw [cp_e37, cp_a37]
  exact ⟨(h.2.2.1 (n0 + 31) _ (fil_g 31 rfl (cp_l37 G.2.1 n0))).1, hA (n0 + 31) (Nat.le_add_right _ _) (Nat.add_lt_add_left (by decide) _)⟩
theorem cp_e38 (G : GT) (n0 : Nat) (A : Nat → Prop) (al : Bool) (z w : Nat) : fxe (cp_G G n0 A al) (cp_s0 z w) (.inl (2, 5, 200, 0)) = ea_i G.2.1 0 200 := rfl
theorem cp_a38 (G : GT) (n0 : Nat) (A : Nat → Prop) (al : Bool) : (cp_G G n0 A al).2.2.1 38 = n0 + 32 := rfl
theorem cp_l38 (ks : Nat → ClassId) (n0 : Nat) : (cp_L ks n0)[32]? = some (ea_i ks 0 200) := rfl
theorem cp_x38 {G : GT} {σ : ST} {n0 w z : Nat} {H : Heap} {A : Nat → Prop} {al : Bool} (h : Pic [] G (fil σ n0 (cp_L G.2.1 n0) w) H) (hA : ∀ q, n0 ≤ q → q < n0 + 49 → A q) : va_at (cp_G G n0 A al).1 lk_cl ((cp_G G n0 A al).2.2.1 38, fxe (cp_G G n0 A al) (cp_s0 z w) (.inl (2, 5, 200, 0))) H ∧ (cp_G G n0 A al).2.2.2.1 ((cp_G G n0 A al).2.2.1 38) := by
  rw [cp_e38, cp_a38]
  exact ⟨(h.2.2.1 (n0 + 32) _ (fil_g 32 rfl (cp_l38 G.2.1 n0))).1, hA (n0 + 32) (Nat.le_add_right _ _) (Nat.add_lt_add_left (by decide) _)⟩
theorem cp_e39 (G : GT) (n0 : Nat) (A : Nat → Prop) (al : Bool) (z w : Nat) : fxe (cp_G G n0 A al) (cp_s0 z w) (.inl (2, 6, 200, 0)) = ea_i G.2.1 0 200 := rfl
theorem cp_a39 (G : GT) (n0 : Nat) (A : Nat → Prop) (al : Bool) : (cp_G G n0 A al).2.2.1 39 = n0 + 33 := rfl
theorem cp_l39 (ks : Nat → ClassId) (n0 : Nat) : (cp_L ks n0)[33]? = some (ea_i ks 0 200) := rfl
theorem cp_x39 {G : GT} {σ : ST} {n0 w z : Nat} {H : Heap} {A : Nat → Prop} {al : Bool} (h : Pic [] G (fil σ n0 (cp_L G.2.1 n0) w) H) (hA : ∀ q, n0 ≤ q → q < n0 + 49 → A q) : va_at (cp_G G n0 A al).1 lk_cl ((cp_G G n0 A al).2.2.1 39, fxe (cp_G G n0 A al) (cp_s0 z w) (.inl (2, 6, 200, 0))) H ∧ (cp_G G n0 A al).2.2.2.1 ((cp_G G n0 A al).2.2.1 39) := by
  rw [cp_e39, cp_a39]
  exact ⟨(h.2.2.1 (n0 + 33) _ (fil_g 33 rfl (cp_l39 G.2.1 n0))).1, hA (n0 + 33) (Nat.le_add_right _ _) (Nat.add_lt_add_left (by decide) _)⟩
theorem cp_e40 (G : GT) (n0 : Nat) (A : Nat → Prop) (al : Bool) (z w : Nat) : fxe (cp_G G n0 A al) (cp_s0 z w) (.inl (2, 7, 200, 0)) = ea_i G.2.1 0 200 := rfl
theorem cp_a40 (G : GT) (n0 : Nat) (A : Nat → Prop) (al : Bool) : (cp_G G n0 A al).2.2.1 40 = n0 + 34 := rfl
theorem cp_l40 (ks : Nat → ClassId) (n0 : Nat) : (cp_L ks n0)[34]? = some (ea_i ks 0 200) := rfl
theorem cp_x40 {G : GT} {σ : ST} {n0 w z : Nat} {H : Heap} {A : Nat → Prop} {al : Bool} (h : Pic [] G (fil σ n0 (cp_L G.2.1 n0) w) H) (hA : ∀ q, n0 ≤ q → q < n0 + 49 → A q) : va_at (cp_G G n0 A al).1 lk_cl ((cp_G G n0 A al).2.2.1 40, fxe (cp_G G n0 A al) (cp_s0 z w) (.inl (2, 7, 200, 0))) H ∧ (cp_G G n0 A al).2.2.2.1 ((cp_G G n0 A al).2.2.1 40) := by
  rw [cp_e40, cp_a40]
  exact ⟨(h.2.2.1 (n0 + 34) _ (fil_g 34 rfl (cp_l40 G.2.1 n0))).1, hA (n0 + 34) (Nat.le_add_right _ _) (Nat.add_lt_add_left (by decide) _)⟩
theorem cp_e41 (G : GT) (n0 : Nat) (A : Nat → Prop) (al : Bool) (z w : Nat) : fxe (cp_G G n0 A al) (cp_s0 z w) (.inl (2, 8, 20, 0)) = ea_i G.2.1 0 20 := rfl
theorem cp_a41 (G : GT) (n0 : Nat) (A : Nat → Prop) (al : Bool) : (cp_G G n0 A al).2.2.1 41 = n0 + 35 := rfl
theorem cp_l41 (ks : Nat → ClassId) (n0 : Nat) : (cp_L ks n0)[35]? = some (ea_i ks 0 20) := rfl
theorem cp_x41 {G : GT} {σ : ST} {n0 w z : Nat} {H : Heap} {A : Nat → Prop} {al : Bool} (h : Pic [] G (fil σ n0 (cp_L G.2.1 n0) w) H) (hA : ∀ q, n0 ≤ q → q < n0 + 49 → A q) : va_at (cp_G G n0 A al).1 lk_cl ((cp_G G n0 A al).2.2.1 41, fxe (cp_G G n0 A al) (cp_s0 z w) (.inl (2, 8, 20, 0))) H ∧ (cp_G G n0 A al).2.2.2.1 ((cp_G G n0 A al).2.2.1 41) := by
  rw [cp_e41, cp_a41]
  exact ⟨(h.2.2.1 (n0 + 35) _ (fil_g 35 rfl (cp_l41 G.2.1 n0))).1, hA (n0 + 35) (Nat.le_add_right _ _) (Nat.add_lt_add_left (by decide) _)⟩
theorem cp_e42 (G : GT) (n0 : Nat) (A : Nat → Prop) (al : Bool) (z w : Nat) : fxe (cp_G G n0 A al) (cp_s0 z w) (.inl (2, 9, 20, 0)) = ea_i G.2.1 0 20 := rfl
theorem cp_a42 (G : GT) (n0 : Nat) (A : Nat → Prop) (al : Bool) : (cp_G G n0 A al).2.2.1 42 = n0 + 36 := rfl
theorem cp_l42 (ks : Nat → ClassId) (n0 : Nat) : (cp_L ks n0)[36]? = some (ea_i ks 0 20) := rfl
theorem cp_x42 {G : GT} {σ : ST} {n0 w z : Nat} {H : Heap} {A : Nat → Prop} {al : Bool} (h : Pic [] G (fil σ n0 (cp_L G.2.1 n0) w) H) (hA : ∀ q, n0 ≤ q → q < n0 + 49 → A q) : va_at (cp_G G n0 A al).1 lk_cl ((cp_G G n0 A al).2.2.1 42, fxe (cp_G G n0 A al) (cp_s0 z w) (.inl (2, 9, 20, 0))) H ∧ (cp_G G n0 A al).2.2.2.1 ((cp_G G n0 A al).2.2.1 42) := by
  rw [cp_e42, cp_a42]
  exact ⟨(h.2.2.1 (n0 + 36) _ (fil_g 36 rfl (cp_l42 G.2.1 n0))).1, hA (n0 + 36) (Nat.le_add_right _ _) (Nat.add_lt_add_left (by decide) _)⟩
theorem cp_e43 (G : GT) (n0 : Nat) (A : Nat → Prop) (al : Bool) (z w : Nat) : fxe (cp_G G n0 A al) (cp_s0 z w) (.inl (2, 10, 10, 0)) = ea_i G.2.1 0 10 := rfl
theorem cp_a43 (G : GT) (n0 : Nat) (A : Nat → Prop) (al : Bool) : (cp_G G n0 A al).2.2.1 43 = n0 + 37 := rfl
theorem cp_l43 (ks : Nat → ClassId) (n0 : Nat) : (cp_L ks n0)[37]? = some (ea_i ks 0 10) := rfl
theorem cp_x43 {G : GT} {σ : ST} {n0 w z : Nat} {H : Heap} {A : Nat → Prop} {al : Bool} (h : Pic [] G (fil σ n0 (cp_L G.2.1 n0) w) H) (hA : ∀ q, n0 ≤ q → q < n0 + 49 → A q) : va_at (cp_G G n0 A al).1 lk_cl ((cp_G G n0 A al).2.2.1 43, fxe (cp_G G n0 A al) (cp_s0 z w) (.inl (2, 10, 10, 0))) H ∧ (cp_G G n0 A al).2.2.2.1 ((cp_G G n0 A al).2.2.1 43) := by
  rw [cp_e43, cp_a43]
  exact ⟨(h.2.2.1 (n0 + 37) _ (fil_g 37 rfl (cp_l43 G.2.1 n0))).1, hA (n0 + 37) (Nat.le_add_right _ _) (Nat.add_lt_add_left (by decide) _)⟩
theorem cp_e44 (G : GT) (n0 : Nat) (A : Nat → Prop) (al : Bool) (z w : Nat) : fxe (cp_G G n0 A al) (cp_s0 z w) (.inl (2, 11, 10, 0)) = ea_i G.2.1 0 10 := rfl
theorem cp_a44 (G : GT) (n0 : Nat) (A : Nat → Prop) (al : Bool) : (cp_G G n0 A al).2.2.1 44 = n0 + 38 := rfl
theorem cp_l44 (ks : Nat → ClassId) (n0 : Nat) : (cp_L ks n0)[38]? = some (ea_i ks 0 10) := rfl
theorem cp_x44 {G : GT} {σ : ST} {n0 w z : Nat} {H : Heap} {A : Nat → Prop} {al : Bool} (h : Pic [] G (fil σ n0 (cp_L G.2.1 n0) w) H) (hA : ∀ q, n0 ≤ q → q < n0 + 49 → A q) : va_at (cp_G G n0 A al).1 lk_cl ((cp_G G n0 A al).2.2.1 44, fxe (cp_G G n0 A al) (cp_s0 z w) (.inl (2, 11, 10, 0))) H ∧ (cp_G G n0 A al).2.2.2.1 ((cp_G G n0 A al).2.2.1 44) := by
  rw [cp_e44, cp_a44]
  exact ⟨(h.2.2.1 (n0 + 38) _ (fil_g 38 rfl (cp_l44 G.2.1 n0))).1, hA (n0 + 38) (Nat.le_add_right _ _) (Nat.add_lt_add_left (by decide) _)⟩
theorem cp_e45 (G : GT) (n0 : Nat) (A : Nat → Prop) (al : Bool) (z w : Nat) : fxe (cp_G G n0 A al) (cp_s0 z w) (.inl (2, 12, 10, 0)) = ea_i G.2.1 0 10 := rfl
theorem cp_a45 (G : GT) (n0 : Nat) (A : Nat → Prop) (al : Bool) : (cp_G G n0 A al).2.2.1 45 = n0 + 39 := rfl
theorem cp_l45 (ks : Nat → ClassId) (n0 : Nat) : (cp_L ks n0)[39]? = some (ea_i ks 0 10) := rfl
theorem cp_x45 {G : GT} {σ : ST} {n0 w z : Nat} {H : Heap} {A : Nat → Prop} {al : Bool} (h : Pic [] G (fil σ n0 (cp_L G.2.1 n0) w) H) (hA : ∀ q, n0 ≤ q → q < n0 + 49 → A q) : va_at (cp_G G n0 A al).1 lk_cl ((cp_G G n0 A al).2.2.1 45, fxe (cp_G G n0 A al) (cp_s0 z w) (.inl (2, 12, 10, 0))) H ∧ (cp_G G n0 A al).2.2.2.1 ((cp_G G n0 A al).2.2.1 45) := by
  rw [cp_e45, cp_a45]
  exact ⟨(h.2.2.1 (n0 + 39) _ (fil_g 39 rfl (cp_l45 G.2.1 n0))).1, hA (n0 + 39) (Nat.le_add_right _ _) (Nat.add_lt_add_left (by decide) _)⟩
theorem cp_e46 (G : GT) (n0 : Nat) (A : Nat → Prop) (al : Bool) (z w : Nat) : fxe (cp_G G n0 A al) (cp_s0 z w) (.inl (2, 13, 10, 0)) = ea_i G.2.1 0 10 := rfl
theorem cp_a46 (G : GT) (n0 : Nat) (A : Nat → Prop) (al : Bool) : (cp_G G n0 A al).2.2.1 46 = n0 + 40 := rfl
theorem cp_l46 (ks : Nat → ClassId) (n0 : Nat) : (cp_L ks n0)[40]? = some (ea_i ks 0 10) := rfl
theorem cp_x46 {G : GT} {σ : ST} {n0 w z : Nat} {H : Heap} {A : Nat → Prop} {al : Bool} (h : Pic [] G (fil σ n0 (cp_L G.2.1 n0) w) H) (hA : ∀ q, n0 ≤ q → q < n0 + 49 → A q) : va_at (cp_G G n0 A al).1 lk_cl ((cp_G G n0 A al).2.2.1 46, fxe (cp_G G n0 A al) (cp_s0 z w) (.inl (2, 13, 10, 0))) H ∧ (cp_G G n0 A al).2.2.2.1 ((cp_G G n0 A al).2.2.1 46) := by
  rw [cp_e46, cp_a46]
  exact ⟨(h.2.2.1 (n0 + 40) _ (fil_g 40 rfl (cp_l46 G.2.1 n0))).1, hA (n0 + 40) (Nat.le_add_right _ _) (Nat.add_lt_add_left (by decide) _)⟩
theorem cp_e47 (G : GT) (n0 : Nat) (A : Nat → Prop) (al : Bool) (z w : Nat) : fxe (cp_G G n0 A al) (cp_s0 z w) (.inl (2, 14, 10, 0)) = ea_i G.2.1 0 10 := rfl
theorem cp_a47 (G : GT) (n0 : Nat) (A : Nat → Prop) (al : Bool) : (cp_G G n0 A al).2.2.1 47 = n0 + 41 := rfl
theorem cp_l47 (ks : Nat → ClassId) (n0 : Nat) : (cp_L ks n0)[41]? = some (ea_i ks 0 10) := rfl
theorem cp_x47 {G : GT} {σ : ST} {n0 w z : Nat} {H : Heap} {A : Nat → Prop} {al : Bool} (h : Pic [] G (fil σ n0 (cp_L G.2.1 n0) w) H) (hA : ∀ q, n0 ≤ q → q < n0 + 49 → A q) : va_at (cp_G G n0 A al).1 lk_cl ((cp_G G n0 A al).2.2.1 47, fxe (cp_G G n0 A al) (cp_s0 z w) (.inl (2, 14, 10, 0))) H ∧ (cp_G G n0 A al).2.2.2.1 ((cp_G G n0 A al).2.2.1 47) := by
  rw [cp_e47, cp_a47]
  exact ⟨(h.2.2.1 (n0 + 41) _ (fil_g 41 rfl (cp_l47 G.2.1 n0))).1, hA (n0 + 41) (Nat.le_add_right _ _) (Nat.add_lt_add_left (by decide) _)⟩
theorem cp_e48 (G : GT) (n0 : Nat) (A : Nat → Prop) (al : Bool) (z w : Nat) : fxe (cp_G G n0 A al) (cp_s0 z w) (.inl (2, 15, 10, 0)) = ea_i G.2.1 0 10 := rfl
theorem cp_a48 (G : GT) (n0 : Nat) (A : Nat → Prop) (al : Bool) : (cp_G G n0 A al).2.2.1 48 = n0 + 42 := rfl
theorem cp_l48 (ks : Nat → ClassId) (n0 : Nat) : (cp_L ks n0)[42]? = some (ea_i ks 0 10) := rfl
theorem cp_x48 {G : GT} {σ : ST} {n0 w z : Nat} {H : Heap} {A : Nat → Prop} {al : Bool} (h : Pic [] G (fil σ n0 (cp_L G.2.1 n0) w) H) (hA : ∀ q, n0 ≤ q → q < n0 + 49 → A q) : va_at (cp_G G n0 A al).1 lk_cl ((cp_G G n0 A al).2.2.1 48, fxe (cp_G G n0 A al) (cp_s0 z w) (.inl (2, 15, 10, 0))) H ∧ (cp_G G n0 A al).2.2.2.1 ((cp_G G n0 A al).2.2.1 48) := by
  rw [cp_e48, cp_a48]
  exact ⟨(h.2.2.1 (n0 + 42) _ (fil_g 42 rfl (cp_l48 G.2.1 n0))).1, hA (n0 + 42) (Nat.le_add_right _ _) (Nat.add_lt_add_left (by decide) _)⟩
set_option maxHeartbeats 4000000 in
theorem cp_pic0 {G : GT} {σ : ST} {n0 w : Nat} {H : Heap} {A : Nat → Prop} {al : Bool} (hal : G.2.2.2.2 = true) (h : Pic [] G (fil σ n0 (cp_L G.2.1 n0) w) H) (hA : ∀ q, n0 ≤ q → q < n0 + 49 → A q) (hA2 : al = true → ∀ q, n0 + 49 ≤ q → A q) : Pic cp_ft (cp_G G n0 A al) (cp_s0 (n0 + 49) w) H := by
  have hl : cp_ft.length = 49 := rfl
  refine ⟨fun j c hj => ?_, fun i j hi hj e => ?_, fun a e ha => (by cases ha), fun hz => ?_⟩
  · have hjl : j < 49 := by rw [← hl]; exact lt_of_some hj
    by_cases c0 : j = 0
    · subst c0
      obtain rfl := Option.some.inj ((rfl : cp_ft[0]? = some (.inr (0, 0, cp_fl))).symm.trans hj)
      exact cp_x0 h hA
    by_cases c1 : j = 1
    · subst c1
      obtain rfl := Option.some.inj ((rfl : cp_ft[1]? = some (.inl (0, 0, 10, 3))).symm.trans hj)
      exact cp_x1 h hA
    by_cases c2 : j = 2
    · subst c2
      obtain rfl := Option.some.inj ((rfl : cp_ft[2]? = some (.inl (0, 1, 6, 4))).symm.trans hj)
      exact cp_x2 h hA
    by_cases c3 : j = 3
    · subst c3
      obtain rfl := Option.some.inj ((rfl : cp_ft[3]? = some (.inl (0, 2, 20, 5))).symm.trans hj)
      exact cp_x3 h hA
    by_cases c4 : j = 4
    · subst c4
      obtain rfl := Option.some.inj ((rfl : cp_ft[4]? = some (.inl (0, 9, 40, 6))).symm.trans hj)
      exact cp_x4 h hA
    by_cases c5 : j = 5
    · subst c5
      obtain rfl := Option.some.inj ((rfl : cp_ft[5]? = some (.inl (0, 12, 120, 1))).symm.trans hj)
      exact cp_x5 h hA
    by_cases c6 : j = 6
    · subst c6
      obtain rfl := Option.some.inj ((rfl : cp_ft[6]? = some (.inl (0, 16, 6, 0))).symm.trans hj)
      exact cp_x6 h hA
    by_cases c7 : j = 7
    · subst c7
      obtain rfl := Option.some.inj ((rfl : cp_ft[7]? = some (.inl (0, 19, 10, 0))).symm.trans hj)
      exact cp_x7 h hA
    by_cases c8 : j = 8
    · subst c8
      obtain rfl := Option.some.inj ((rfl : cp_ft[8]? = some (.inl (0, 20, 6, 0))).symm.trans hj)
      exact cp_x8 h hA
    by_cases c9 : j = 9
    · subst c9
      obtain rfl := Option.some.inj ((rfl : cp_ft[9]? = some (.inl (0, 21, 10, 0))).symm.trans hj)
      exact cp_x9 h hA
    by_cases c10 : j = 10
    · subst c10
      obtain rfl := Option.some.inj ((rfl : cp_ft[10]? = some (.inl (0, 30, 24, 1))).symm.trans hj)
      exact cp_x10 h hA
    by_cases c11 : j = 11
    · subst c11
      obtain rfl := Option.some.inj ((rfl : cp_ft[11]? = some (.inl (0, 31, 50, 7))).symm.trans hj)
      exact cp_x11 h hA
    by_cases c12 : j = 12
    · subst c12
      obtain rfl := Option.some.inj ((rfl : cp_ft[12]? = some (.inl (0, 33, 6, 8))).symm.trans hj)
      exact cp_x12 h hA
    by_cases c13 : j = 13
    · subst c13
      obtain rfl := Option.some.inj ((rfl : cp_ft[13]? = some (.inr (3, 1, fa_fl))).symm.trans hj)
      exact cp_x13 h hA
    by_cases c14 : j = 14
    · subst c14
      obtain rfl := Option.some.inj ((rfl : cp_ft[14]? = some (.inl (3, 0, 128, 0))).symm.trans hj)
      exact cp_x14 h hA
    by_cases c15 : j = 15
    · subst c15
      obtain rfl := Option.some.inj ((rfl : cp_ft[15]? = some (.inr (1, 2, mg_fl 0))).symm.trans hj)
      exact cp_x15 h hA
    by_cases c16 : j = 16
    · subst c16
      obtain rfl := Option.some.inj ((rfl : cp_ft[16]? = some (.inl (1, 0, 6, 0))).symm.trans hj)
      exact cp_x16 h hA
    by_cases c17 : j = 17
    · subst c17
      obtain rfl := Option.some.inj ((rfl : cp_ft[17]? = some (.inl (1, 1, 200, 0))).symm.trans hj)
      exact cp_x17 h hA
    by_cases c18 : j = 18
    · subst c18
      obtain rfl := Option.some.inj ((rfl : cp_ft[18]? = some (.inl (1, 2, 200, 0))).symm.trans hj)
      exact cp_x18 h hA
    by_cases c19 : j = 19
    · subst c19
      obtain rfl := Option.some.inj ((rfl : cp_ft[19]? = some (.inl (1, 3, 200, 0))).symm.trans hj)
      exact cp_x19 h hA
    by_cases c20 : j = 20
    · subst c20
      obtain rfl := Option.some.inj ((rfl : cp_ft[20]? = some (.inl (1, 4, 200, 0))).symm.trans hj)
      exact cp_x20 h hA
    by_cases c21 : j = 21
    · subst c21
      obtain rfl := Option.some.inj ((rfl : cp_ft[21]? = some (.inl (1, 5, 200, 0))).symm.trans hj)
      exact cp_x21 h hA
    by_cases c22 : j = 22
    · subst c22
      obtain rfl := Option.some.inj ((rfl : cp_ft[22]? = some (.inl (1, 6, 200, 0))).symm.trans hj)
      exact cp_x22 h hA
    by_cases c23 : j = 23
    · subst c23
      obtain rfl := Option.some.inj ((rfl : cp_ft[23]? = some (.inl (1, 7, 200, 0))).symm.trans hj)
      exact cp_x23 h hA
    by_cases c24 : j = 24
    · subst c24
      obtain rfl := Option.some.inj ((rfl : cp_ft[24]? = some (.inl (1, 8, 20, 0))).symm.trans hj)
      exact cp_x24 h hA
    by_cases c25 : j = 25
    · subst c25
      obtain rfl := Option.some.inj ((rfl : cp_ft[25]? = some (.inl (1, 9, 20, 0))).symm.trans hj)
      exact cp_x25 h hA
    by_cases c26 : j = 26
    · subst c26
      obtain rfl := Option.some.inj ((rfl : cp_ft[26]? = some (.inl (1, 10, 10, 0))).symm.trans hj)
      exact cp_x26 h hA
    by_cases c27 : j = 27
    · subst c27
      obtain rfl := Option.some.inj ((rfl : cp_ft[27]? = some (.inl (1, 11, 10, 0))).symm.trans hj)
      exact cp_x27 h hA
    by_cases c28 : j = 28
    · subst c28
      obtain rfl := Option.some.inj ((rfl : cp_ft[28]? = some (.inl (1, 12, 10, 0))).symm.trans hj)
      exact cp_x28 h hA
    by_cases c29 : j = 29
    · subst c29
      obtain rfl := Option.some.inj ((rfl : cp_ft[29]? = some (.inl (1, 13, 10, 0))).symm.trans hj)
      exact cp_x29 h hA
    by_cases c30 : j = 30
    · subst c30
      obtain rfl := Option.some.inj ((rfl : cp_ft[30]? = some (.inl (1, 14, 10, 0))).symm.trans hj)
      exact cp_x30 h hA
    by_cases c31 : j = 31
    · subst c31
      obtain rfl := Option.some.inj ((rfl : cp_ft[31]? = some (.inl (1, 15, 10, 0))).symm.trans hj)
      exact cp_x31 h hA
    by_cases c32 : j = 32
    · subst c32
      obtain rfl := Option.some.inj ((rfl : cp_ft[32]? = some (.inr (2, 2, mg_fl 1))).symm.trans hj)
      exact cp_x32 h hA
    by_cases c33 : j = 33
    · subst c33
      obtain rfl := Option.some.inj ((rfl : cp_ft[33]? = some (.inl (2, 0, 6, 0))).symm.trans hj)
      exact cp_x33 h hA
    by_cases c34 : j = 34
    · subst c34
      obtain rfl := Option.some.inj ((rfl : cp_ft[34]? = some (.inl (2, 1, 200, 0))).symm.trans hj)
      exact cp_x34 h hA
    by_cases c35 : j = 35
    · subst c35
      obtain rfl := Option.some.inj ((rfl : cp_ft[35]? = some (.inl (2, 2, 200, 0))).symm.trans hj)
      exact cp_x35 h hA
    by_cases c36 : j = 36
    · subst c36
      obtain rfl := Option.some.inj ((rfl : cp_ft[36]? = some (.inl (2, 3, 200, 0))).symm.trans hj)
      exact cp_x36 h hA
    by_cases c37 : j = 37
    · subst c37
      obtain rfl := Option.some.inj ((rfl : cp_ft[37]? = some (.inl (2, 4, 200, 0))).symm.trans hj)
      exact cp_x37 h hA
    by_cases c38 : j = 38
    · subst c38
      obtain rfl := Option.some.inj ((rfl : cp_ft[38]? = some (.inl (2, 5, 200, 0))).symm.trans hj)
      exact cp_x38 h hA
    by_cases c39 : j = 39
    · subst c39
      obtain rfl := Option.some.inj ((rfl : cp_ft[39]? = some (.inl (2, 6, 200, 0))).symm.trans hj)
      exact cp_x39 h hA
    by_cases c40 : j = 40
    · subst c40
      obtain rfl := Option.some.inj ((rfl : cp_ft[40]? = some (.inl (2, 7, 200, 0))).symm.trans hj)
      exact cp_x40 h hA
    by_cases c41 : j = 41
    · subst c41
      obtain rfl := Option.some.inj ((rfl : cp_ft[41]? = some (.inl (2, 8, 20, 0))).symm.trans hj)
      exact cp_x41 h hA
    by_cases c42 : j = 42
    · subst c42
      obtain rfl := Option.some.inj ((rfl : cp_ft[42]? = some (.inl (2, 9, 20, 0))).symm.trans hj)
      exact cp_x42 h hA
    by_cases c43 : j = 43
    · subst c43
      obtain rfl := Option.some.inj ((rfl : cp_ft[43]? = some (.inl (2, 10, 10, 0))).symm.trans hj)
      exact cp_x43 h hA
    by_cases c44 : j = 44
    · subst c44
      obtain rfl := Option.some.inj ((rfl : cp_ft[44]? = some (.inl (2, 11, 10, 0))).symm.trans hj)
      exact cp_x44 h hA
    by_cases c45 : j = 45
    · subst c45
      obtain rfl := Option.some.inj ((rfl : cp_ft[45]? = some (.inl (2, 12, 10, 0))).symm.trans hj)
      exact cp_x45 h hA
    by_cases c46 : j = 46
    · subst c46
      obtain rfl := Option.some.inj ((rfl : cp_ft[46]? = some (.inl (2, 13, 10, 0))).symm.trans hj)
      exact cp_x46 h hA
    by_cases c47 : j = 47
    · subst c47
      obtain rfl := Option.some.inj ((rfl : cp_ft[47]? = some (.inl (2, 14, 10, 0))).symm.trans hj)
      exact cp_x47 h hA
    by_cases c48 : j = 48
    · subst c48
      obtain rfl := Option.some.inj ((rfl : cp_ft[48]? = some (.inl (2, 15, 10, 0))).symm.trans hj)
      exact cp_x48 h hA
    exact absurd hjl (by omega)
  · rw [hl] at hi hj
    refine cp_posi i hi j hj ?_
    have e1 : (if i < 49 then n0 + cp_pos.getD i 0 else G.2.2.1 i) = (if j < 49 then n0 + cp_pos.getD j 0 else G.2.2.1 j) := e
    rw [if_pos hi, if_pos hj] at e1
    exact Nat.add_left_cancel e1
  · obtain ⟨k1, k2, -⟩ := h.2.2.2 hal
    exact ⟨k1, k2, hA2 hz⟩
def tw_pos : List Nat := [0, 1, 2, 3, 4, 5, 6, 7, 8, 9, 10, 11, 12, 13, 14, 15, 16, 17, 18, 19, 20, 21, 22, 23, 24, 25, 26, 27, 28, 29, 30, 31, 32, 33, 34, 35, 36, 37, 38, 39, 40, 41, 42, 43, 44]
theorem tw_posi : ∀ i, i < 45 → ∀ j, j < 45 → tw_pos.getD i 0 = tw_pos.getD j 0 → i = j := by decide +kernel
def tw_G (G : GT) (n0 : Nat) (A : Nat → Prop) (al : Bool) : GT := (G.1, G.2.1, (fun j => if j < 45 then n0 + tw_pos.getD j 0 else G.2.2.1 j), A, al)
def tw_s0 (z w : Nat) : ST := ((fun o k => if o = 0 ∧ k = 0 then (fun i => if i = 19 then -1 else if i = 15 then 3 else if i = 46 then -1 else 0) else if o = 0 ∧ k = 73 then (upd (upd (upd (upd (upd (upd (fun _ => 0) 0 (-1)) 1 (-1)) 2 (-1)) 3 (-1)) 4 (-1)) 5 (-1)) else fun _ => 0), fun _ _ _ => 0, fun _ _ _ => none, fun _ => none, z, w)
theorem tw_e0 (G : GT) (n0 : Nat) (A : Nat → Prop) (al : Bool) (z w : Nat) : fxe (tw_G G n0 A al) (tw_s0 z w) (.inr (0, 3, tw_fl)) = .inr (3, [.ref (n0 + 1), .ref (n0 + 2), .ref (n0 + 3), .ref (n0 + 4), .int 0, .int 0, .int 0, .ref (n0 + 5), .int 0, .int 0, .ref (n0 + 6), .ref (n0 + 7), .ref (n0 + 8), .int 0, .int 0, .int (3), .ref (n0 + 9), .int 0, .ref (n0 + 10), .int (-1), .int 0, .int 0, .int 0, .int 0, .int 0, .ref (n0 + 11), .int 0, .int 0, .int 0, .int 0, .int 0, .int 0, .ref (n0 + 12), .ref (n0 + 13), .ref (n0 + 14), .ref (n0 + 15), .ref (n0 + 16), .ref (n0 + 17), .ref (n0 + 18), .ref (n0 + 19), .ref (n0 + 20), .ref (n0 + 21), .ref (n0 + 22), .ref (n0 + 23), .ref (n0 + 24), .ref (n0 + 25), .int (-1), .int 0, .int 0, .int 0, .ref (n0 + 26), .ref (n0 + 27), .ref (n0 + 28), .ref (n0 + 29), .ref (n0 + 30), .ref (n0 + 31), .ref (n0 + 32), .ref (n0 + 33), .ref (n0 + 34), .ref (n0 + 35), .ref (n0 + 36), .ref (n0 + 37), .ref (n0 + 38), .int 0, .int 0, .int 0, .int 0, .ref (n0 + 39), .ref (n0 + 40), .int 0, .int 0, .int 0, .ref (n0 + 41), .ref (n0 + 42), .ref (n0 + 43), .ref (n0 + 44)]) := by
  show (Sum.inr (_, List.mapIdx _ _) : va_E) = _
  simp only [cp_fl, fa_fl, mg_fl, tw_fl, List.mapIdx_cons, List.mapIdx_nil]
  rfl
theorem tw_a0 (G : GT) (n0 : Nat) (A : Nat → Prop) (al : Bool) : (tw_G G n0 A al).2.2.1 0 = n0 + 0 := rfl
theorem tw_l0 (ks : Nat → ClassId) (n0 : Nat) : (tw_L ks n0)[0]? = some (.inr (3, [.ref (n0 + 1), .ref (n0 + 2), .ref (n0 + 3), .ref (n0 + 4), .int 0, .int 0, .int 0, .ref (n0 + 5), .int 0, .int 0, .ref (n0 + 6), .ref (n0 + 7), .ref (n0 + 8), .int 0, .int 0, .int (3), .ref (n0 + 9), .int 0, .ref (n0 + 10), .int (-1), .int 0, .int 0, .int 0, .int 0, .int 0, .ref (n0 + 11), .int 0, .int 0, .int 0, .int 0, .int 0, .int 0, .ref (n0 + 12), .ref (n0 + 13), .ref (n0 + 14), .ref (n0 + 15), .ref (n0 + 16), .ref (n0 + 17), .ref (n0 + 18), .ref (n0 + 19), .ref (n0 + 20), .ref (n0 + 21), .ref (n0 + 22), .ref (n0 + 23), .ref (n0 + 24), .ref (n0 + 25), .int (-1), .int 0, .int 0, .int 0, .ref (n0 + 26), .ref (n0 + 27), .ref (n0 + 28), .ref (n0 + 29), .ref (n0 + 30), .ref (n0 + 31), .ref (n0 + 32), .ref (n0 + 33), .ref (n0 + 34), .ref (n0 + 35), .ref (n0 + 36), .ref (n0 + 37), .ref (n0 + 38), .int 0, .int 0, .int 0, .int 0, .ref (n0 + 39), .ref (n0 + 40), .int 0, .int 0, .int 0, .ref (n0 + 41), .ref (n0 + 42), .ref (n0 + 43), .ref (n0 + 44)])) := rfl
theorem tw_x0 {G : GT} {σ : ST} {n0 w z : Nat} {H : Heap} {A : Nat → Prop} {al : Bool} (h : Pic [] G (fil σ n0 (tw_L G.2.1 n0) w) H) (hA : ∀ q, n0 ≤ q → q < n0 + 45 → A q) : va_at (tw_G G n0 A al).1 lk_cl ((tw_G G n0 A al).2.2.1 0, fxe (tw_G G n0 A al) (tw_s0 z w) (.inr (0, 3, tw_fl))) H ∧ (tw_G G n0 A al).2.2.2.1 ((tw_G G n0 A al).2.2.1 0) := by
  rw [tw_e0, tw_a0]
  exact ⟨(h.2.2.1 (n0 + 0) _ (fil_g 0 rfl (tw_l0 G.2.1 n0))).1, hA (n0 + 0) (Nat.le_add_right _ _) (Nat.add_lt_add_left (by decide) _)⟩
theorem tw_e1 (G : GT) (n0 : Nat) (A : Nat → Prop) (al : Bool) (z w : Nat) : fxe (tw_G G n0 A al) (tw_s0 z w) (.inl (0, 0, 42, 0)) = ea_i G.2.1 0 42 := rfl
theorem tw_a1 (G : GT) (n0 : Nat) (A : Nat → Prop) (al : Bool) : (tw_G G n0 A al).2.2.1 1 = n0 + 1 := rfl
theorem tw_l1 (ks : Nat → ClassId) (n0 : Nat) : (tw_L ks n0)[1]? = some (ea_i ks 0 42) := rfl
theorem tw_x1 {G : GT} {σ : ST} {n0 w z : Nat} {H : Heap} {A : Nat → Prop} {al : Bool} (h : Pic [] G (fil σ n0 (tw_L G.2.1 n0) w) H) (hA : ∀ q, n0 ≤ q → q < n0 + 45 → A q) : va_at (tw_G G n0 A al).1 lk_cl ((tw_G G n0 A al).2.2.1 1, fxe (tw_G G n0 A al) (tw_s0 z w) (.inl (0, 0, 42, 0))) H ∧ (tw_G G n0 A al).2.2.2.1 ((tw_G G n0 A al).2.2.1 1) := by
  rw [tw_e1, tw_a1]
  exact ⟨(h.2.2.1 (n0 + 1) _ (fil_g 1 rfl (tw_l1 G.2.1 n0))).1, hA (n0 + 1) (Nat.le_add_right _ _) (Nat.add_lt_add_left (by decide) _)⟩
theorem tw_e2 (G : GT) (n0 : Nat) (A : Nat → Prop) (al : Bool) (z w : Nat) : fxe (tw_G G n0 A al) (tw_s0 z w) (.inl (0, 1, 40, 0)) = ea_i G.2.1 0 40 := rfl
theorem tw_a2 (G : GT) (n0 : Nat) (A : Nat → Prop) (al : Bool) : (tw_G G n0 A al).2.2.1 2 = n0 + 2 := rfl
theorem tw_l2 (ks : Nat → ClassId) (n0 : Nat) : (tw_L ks n0)[2]? = some (ea_i ks 0 40) := rfl
theorem tw_x2 {G : GT} {σ : ST} {n0 w z : Nat} {H : Heap} {A : Nat → Prop} {al : Bool} (h : Pic [] G (fil σ n0 (tw_L G.2.1 n0) w) H) (hA : ∀ q, n0 ≤ q → q < n0 + 45 → A q) : va_at (tw_G G n0 A al).1 lk_cl ((tw_G G n0 A al).2.2.1 2, fxe (tw_G G n0 A al) (tw_s0 z w) (.inl (0, 1, 40, 0))) H ∧ (tw_G G n0 A al).2.2.2.1 ((tw_G G n0 A al).2.2.1 2) := by
  rw [tw_e2, tw_a2]
  exact ⟨(h.2.2.1 (n0 + 2) _ (fil_g 2 rfl (tw_l2 G.2.1 n0))).1, hA (n0 + 2) (Nat.le_add_right _ _) (Nat.add_lt_add_left (by decide) _)⟩
theorem tw_e3 (G : GT) (n0 : Nat) (A : Nat → Prop) (al : Bool) (z w : Nat) : fxe (tw_G G n0 A al) (tw_s0 z w) (.inl (0, 2, 40, 0)) = ea_i G.2.1 0 40 := rfl
theorem tw_a3 (G : GT) (n0 : Nat) (A : Nat → Prop) (al : Bool) : (tw_G G n0 A al).2.2.1 3 = n0 + 3 := rfl
theorem tw_l3 (ks : Nat → ClassId) (n0 : Nat) : (tw_L ks n0)[3]? = some (ea_i ks 0 40) := rfl
theorem tw_x3 {G : GT} {σ : ST} {n0 w z : Nat} {H : Heap} {A : Nat → Prop} {al : Bool} (h : Pic [] G (fil σ n0 (tw_L G.2.1 n0) w) H) (hA : ∀ q, n0 ≤ q → q < n0 + 45 → A q) : va_at (tw_G G n0 A al).1 lk_cl ((tw_G G n0 A al).2.2.1 3, fxe (tw_G G n0 A al) (tw_s0 z w) (.inl (0, 2, 40, 0))) H ∧ (tw_G G n0 A al).2.2.2.1 ((tw_G G n0 A al).2.2.1 3) := by
  rw [tw_e3, tw_a3]
  exact ⟨(h.2.2.1 (n0 + 3) _ (fil_g 3 rfl (tw_l3 G.2.1 n0))).1, hA (n0 + 3) (Nat.le_add_right _ _) (Nat.add_lt_add_left (by decide) _)⟩
theorem tw_e4 (G : GT) (n0 : Nat) (A : Nat → Prop) (al : Bool) (z w : Nat) : fxe (tw_G G n0 A al) (tw_s0 z w) (.inl (0, 3, 40, 0)) = ea_i G.2.1 0 40 := rfl
theorem tw_a4 (G : GT) (n0 : Nat) (A : Nat → Prop) (al : Bool) : (tw_G G n0 A al).2.2.1 4 = n0 + 4 := rfl
theorem tw_l4 (ks : Nat → ClassId) (n0 : Nat) : (tw_L ks n0)[4]? = some (ea_i ks 0 40) := rfl
theorem tw_x4 {G : GT} {σ : ST} {n0 w z : Nat} {H : Heap} {A : Nat → Prop} {al : Bool} (h : Pic [] G (fil σ n0 (tw_L G.2.1 n0) w) H) (hA : ∀ q, n0 ≤ q → q < n0 + 45 → A q) : va_at (tw_G G n0 A al).1 lk_cl ((tw_G G n0 A al).2.2.1 4, fxe (tw_G G n0 A al) (tw_s0 z w) (.inl (0, 3, 40, 0))) H ∧ (tw_G G n0 A al).2.2.2.1 ((tw_G G n0 A al).2.2.1 4) := by
  rw [tw_e4, tw_a4]
  exact ⟨(h.2.2.1 (n0 + 4) _ (fil_g 4 rfl (tw_l4 G.2.1 n0))).1, hA (n0 + 4) (Nat.le_add_right _ _) (Nat.add_lt_add_left (by decide) _)⟩
theorem tw_e5 (G : GT) (n0 : Nat) (A : Nat → Prop) (al : Bool) (z w : Nat) : fxe (tw_G G n0 A al) (tw_s0 z w) (.inl (0, 7, 10, 0)) = ea_i G.2.1 0 10 := rfl
theorem tw_a5 (G : GT) (n0 : Nat) (A : Nat → Prop) (al : Bool) : (tw_G G n0 A al).2.2.1 5 = n0 + 5 := rfl
theorem tw_l5 (ks : Nat → ClassId) (n0 : Nat) : (tw_L ks n0)[5]? = some (ea_i ks 0 10) := rfl
theorem tw_x5 {G : GT} {σ : ST} {n0 w z : Nat} {H : Heap} {A : Nat → Prop} {al : Bool} (h : Pic [] G (fil σ n0 (tw_L G.2.1 n0) w) H) (hA : ∀ q, n0 ≤ q → q < n0 + 45 → A q) : va_at (tw_G G n0 A al).1 lk_cl ((tw_G G n0 A al).2.2.1 5, fxe (tw_G G n0 A al) (tw_s0 z w) (.inl (0, 7, 10, 0))) H ∧ (tw_G G n0 A al).2.2.2.1 ((tw_G G n0 A al).2.2.1 5) := by
  rw [tw_e5, tw_a5]
  exact ⟨(h.2.2.1 (n0 + 5) _ (fil_g 5 rfl (tw_l5 G.2.1 n0))).1, hA (n0 + 5) (Nat.le_add_right _ _) (Nat.add_lt_add_left (by decide) _)⟩
theorem tw_e6 (G : GT) (n0 : Nat) (A : Nat → Prop) (al : Bool) (z w : Nat) : fxe (tw_G G n0 A al) (tw_s0 z w) (.inl (0, 10, 20, 0)) = ea_i G.2.1 0 20 := rfl
theorem tw_a6 (G : GT) (n0 : Nat) (A : Nat → Prop) (al : Bool) : (tw_G G n0 A al).2.2.1 6 = n0 + 6 := rfl
theorem tw_l6 (ks : Nat → ClassId) (n0 : Nat) : (tw_L ks n0)[6]? = some (ea_i ks 0 20) := rfl
theorem tw_x6 {G : GT} {σ : ST} {n0 w z : Nat} {H : Heap} {A : Nat → Prop} {al : Bool} (h : Pic [] G (fil σ n0 (tw_L G.2.1 n0) w) H) (hA : ∀ q, n0 ≤ q → q < n0 + 45 → A q) : va_at (tw_G G n0 A al).1 lk_cl ((tw_G G n0 A al).2.2.1 6, fxe (tw_G G n0 A al) (tw_s0 z w) (.inl (0, 10, 20, 0))) H ∧ (tw_G G n0 A al).2.2.2.1 ((tw_G G n0 A al).2.2.1 6) := by
  rw [tw_e6, tw_a6]
  exact ⟨(h.2.2.1 (n0 + 6) _ (fil_g 6 rfl (tw_l6 G.2.1 n0))).1, hA (n0 + 6) (Nat.le_add_right _ _) (Nat.add_lt_add_left (by decide) _)⟩
theorem tw_e7 (G : GT) (n0 : Nat) (A : Nat → Prop) (al : Bool) (z w : Nat) : fxe (tw_G G n0 A al) (tw_s0 z w) (.inl (0, 11, 20, 0)) = ea_i G.2.1 0 20 := rfl
theorem tw_a7 (G : GT) (n0 : Nat) (A : Nat → Prop) (al : Bool) : (tw_G G n0 A al).2.2.1 7 = n0 + 7 := rfl
theorem tw_l7 (ks : Nat → ClassId) (n0 : Nat) : (tw_L ks n0)[7]? = some (ea_i ks 0 20) := rfl
theorem tw_x7 {G : GT} {σ : ST} {n0 w z : Nat} {H : Heap} {A : Nat → Prop} {al : Bool} (h : Pic [] G (fil σ n0 (tw_L G.2.1 n0) w) H) (hA : ∀ q, n0 ≤ q → q < n0 + 45 → A q) : va_at (tw_G G n0 A al).1 lk_cl ((tw_G G n0 A al).2.2.1 7, fxe (tw_G G n0 A al) (tw_s0 z w) (.inl (0, 11, 20, 0))) H ∧ (tw_G G n0 A al).2.2.2.1 ((tw_G G n0 A al).2.2.1 7) := by
  rw [tw_e7, tw_a7]
  exact ⟨(h.2.2.1 (n0 + 7) _ (fil_g 7 rfl (tw_l7 G.2.1 n0))).1, hA (n0 + 7) (Nat.le_add_right _ _) (Nat.add_lt_add_left (by decide) _)⟩
theorem tw_e8 (G : GT) (n0 : Nat) (A : Nat → Prop) (al : Bool) (z w : Nat) : fxe (tw_G G n0 A al) (tw_s0 z w) (.inl (0, 12, 20, 0)) = ea_i G.2.1 0 20 := rfl
theorem tw_a8 (G : GT) (n0 : Nat) (A : Nat → Prop) (al : Bool) : (tw_G G n0 A al).2.2.1 8 = n0 + 8 := rfl
theorem tw_l8 (ks : Nat → ClassId) (n0 : Nat) : (tw_L ks n0)[8]? = some (ea_i ks 0 20) := rfl
theorem tw_x8 {G : GT} {σ : ST} {n0 w z : Nat} {H : Heap} {A : Nat → Prop} {al : Bool} (h : Pic [] G (fil σ n0 (tw_L G.2.1 n0) w) H) (hA : ∀ q, n0 ≤ q → q < n0 + 45 → A q) : va_at (tw_G G n0 A al).1 lk_cl ((tw_G G n0 A al).2.2.1 8, fxe (tw_G G n0 A al) (tw_s0 z w) (.inl (0, 12, 20, 0))) H ∧ (tw_G G n0 A al).2.2.2.1 ((tw_G G n0 A al).2.2.1 8) := by
  rw [tw_e8, tw_a8]
  exact ⟨(h.2.2.1 (n0 + 8) _ (fil_g 8 rfl (tw_l8 G.2.1 n0))).1, hA (n0 + 8) (Nat.le_add_right _ _) (Nat.add_lt_add_left (by decide) _)⟩
theorem tw_e9 (G : GT) (n0 : Nat) (A : Nat → Prop) (al : Bool) (z w : Nat) : fxe (tw_G G n0 A al) (tw_s0 z w) (.inl (0, 16, 120, 0)) = ea_i G.2.1 0 120 := rfl
theorem tw_a9 (G : GT) (n0 : Nat) (A : Nat → Prop) (al : Bool) : (tw_G G n0 A al).2.2.1 9 = n0 + 9 := rfl
theorem tw_l9 (ks : Nat → ClassId) (n0 : Nat) : (tw_L ks n0)[9]? = some (ea_i ks 0 120) := rfl
theorem tw_x9 {G : GT} {σ : ST} {n0 w z : Nat} {H : Heap} {A : Nat → Prop} {al : Bool} (h : Pic [] G (fil σ n0 (tw_L G.2.1 n0) w) H) (hA : ∀ q, n0 ≤ q → q < n0 + 45 → A q) : va_at (tw_G G n0 A al).1 lk_cl ((tw_G G n0 A al).2.2.1 9, fxe (tw_G G n0 A al) (tw_s0 z w) (.inl (0, 16, 120, 0))) H ∧ (tw_G G n0 A al).2.2.2.1 ((tw_G G n0 A al).2.2.1 9) := by
  rw [tw_e9, tw_a9]
  exact ⟨(h.2.2.1 (n0 + 9) _ (fil_g 9 rfl (tw_l9 G.2.1 n0))).1, hA (n0 + 9) (Nat.le_add_right _ _) (Nat.add_lt_add_left (by decide) _)⟩
theorem tw_e10 (G : GT) (n0 : Nat) (A : Nat → Prop) (al : Bool) (z w : Nat) : fxe (tw_G G n0 A al) (tw_s0 z w) (.inl (0, 18, 120, 0)) = ea_i G.2.1 0 120 := rfl
theorem tw_a10 (G : GT) (n0 : Nat) (A : Nat → Prop) (al : Bool) : (tw_G G n0 A al).2.2.1 10 = n0 + 10 := rfl
theorem tw_l10 (ks : Nat → ClassId) (n0 : Nat) : (tw_L ks n0)[10]? = some (ea_i ks 0 120) := rfl
theorem tw_x10 {G : GT} {σ : ST} {n0 w z : Nat} {H : Heap} {A : Nat → Prop} {al : Bool} (h : Pic [] G (fil σ n0 (tw_L G.2.1 n0) w) H) (hA : ∀ q, n0 ≤ q → q < n0 + 45 → A q) : va_at (tw_G G n0 A al).1 lk_cl ((tw_G G n0 A al).2.2.1 10, fxe (tw_G G n0 A al) (tw_s0 z w) (.inl (0, 18, 120, 0))) H ∧ (tw_G G n0 A al).2.2.2.1 ((tw_G G n0 A al).2.2.1 10) := by
  rw [tw_e10, tw_a10]
  exact ⟨(h.2.2.1 (n0 + 10) _ (fil_g 10 rfl (tw_l10 G.2.1 n0))).1, hA (n0 + 10) (Nat.le_add_right _ _) (Nat.add_lt_add_left (by decide) _)⟩
theorem tw_e11 (G : GT) (n0 : Nat) (A : Nat → Prop) (al : Bool) (z w : Nat) : fxe (tw_G G n0 A al) (tw_s0 z w) (.inl (0, 25, 8, 0)) = ea_i G.2.1 0 8 := rfl
theorem tw_a11 (G : GT) (n0 : Nat) (A : Nat → Prop) (al : Bool) : (tw_G G n0 A al).2.2.1 11 = n0 + 11 := rfl
theorem tw_l11 (ks : Nat → ClassId) (n0 : Nat) : (tw_L ks n0)[11]? = some (ea_i ks 0 8) := rfl
theorem tw_x11 {G : GT} {σ : ST} {n0 w z : Nat} {H : Heap} {A : Nat → Prop} {al : Bool} (h : Pic [] G (fil σ n0 (tw_L G.2.1 n0) w) H) (hA : ∀ q, n0 ≤ q → q < n0 + 45 → A q) : va_at (tw_G G n0 A al).1 lk_cl ((tw_G G n0 A al).2.2.1 11, fxe (tw_G G n0 A al) (tw_s0 z w) (.inl (0, 25, 8, 0))) H ∧ (tw_G G n0 A al).2.2.2.1 ((tw_G G n0 A al).2.2.1 11) := by
  rw [tw_e11, tw_a11]
  exact ⟨(h.2.2.1 (n0 + 11) _ (fil_g 11 rfl (tw_l11 G.2.1 n0))).1, hA (n0 + 11) (Nat.le_add_right _ _) (Nat.add_lt_add_left (by decide) _)⟩
theorem tw_e12 (G : GT) (n0 : Nat) (A : Nat → Prop) (al : Bool) (z w : Nat) : fxe (tw_G G n0 A al) (tw_s0 z w) (.inl (0, 32, 10, 0)) = ea_i G.2.1 0 10 := rfl
theorem tw_a12 (G : GT) (n0 : Nat) (A : Nat → Prop) (al : Bool) : (tw_G G n0 A al).2.2.1 12 = n0 + 12 := rfl
theorem tw_l12 (ks : Nat → ClassId) (n0 : Nat) : (tw_L ks n0)[12]? = some (ea_i ks 0 10) := rfl
theorem tw_x12 {G : GT} {σ : ST} {n0 w z : Nat} {H : Heap} {A : Nat → Prop} {al : Bool} (h : Pic [] G (fil σ n0 (tw_L G.2.1 n0) w) H) (hA : ∀ q, n0 ≤ q → q < n0 + 45 → A q) : va_at (tw_G G n0 A al).1 lk_cl ((tw_G G n0 A al).2.2.1 12, fxe (tw_G G n0 A al) (tw_s0 z w) (.inl (0, 32, 10, 0))) H ∧ (tw_G G n0 A al).2.2.2.1 ((tw_G G n0 A al).2.2.1 12) := by
  rw [tw_e12, tw_a12]
  exact ⟨(h.2.2.1 (n0 + 12) _ (fil_g 12 rfl (tw_l12 G.2.1 n0))).1, hA (n0 + 12) (Nat.le_add_right _ _) (Nat.add_lt_add_left (by decide) _)⟩
theorem tw_e13 (G : GT) (n0 : Nat) (A : Nat → Prop) (al : Bool) (z w : Nat) : fxe (tw_G G n0 A al) (tw_s0 z w) (.inl (0, 33, 10, 0)) = ea_i G.2.1 0 10 := rfl
theorem tw_a13 (G : GT) (n0 : Nat) (A : Nat → Prop) (al : Bool) : (tw_G G n0 A al).2.2.1 13 = n0 + 13 := rfl
theorem tw_l13 (ks : Nat → ClassId) (n0 : Nat) : (tw_L ks n0)[13]? = some (ea_i ks 0 10) := rfl
theorem tw_x13 {G : GT} {σ : ST} {n0 w z : Nat} {H : Heap} {A : Nat → Prop} {al : Bool} (h : Pic [] G (fil σ n0 (tw_L G.2.1 n0) w) H) (hA : ∀ q, n0 ≤ q → q < n0 + 45 → A q) : va_at (tw_G G n0 A al).1 lk_cl ((tw_G G n0 A al).2.2.1 13, fxe (tw_G G n0 A al) (tw_s0 z w) (.inl (0, 33, 10, 0))) H ∧ (tw_G G n0 A al).2.2.2.1 ((tw_G G n0 A al).2.2.1 13) := by
  rw [tw_e13, tw_a13]
  exact ⟨(h.2.2.1 (n0 + 13) _ (fil_g 13 rfl (tw_l13 G.2.1 n0))).1, hA (n0 + 13) (Nat.le_add_right _ _) (Nat.add_lt_add_left (by decide) _)⟩
theorem tw_e14 (G : GT) (n0 : Nat) (A : Nat → Prop) (al : Bool) (z w : Nat) : fxe (tw_G G n0 A al) (tw_s0 z w) (.inl (0, 34, 10, 0)) = ea_i G.2.1 0 10 := rfl
theorem tw_a14 (G : GT) (n0 : Nat) (A : Nat → Prop) (al : Bool) : (tw_G G n0 A al).2.2.1 14 = n0 + 14 := rfl
theorem tw_l14 (ks : Nat → ClassId) (n0 : Nat) : (tw_L ks n0)[14]? = some (ea_i ks 0 10) := rfl
theorem tw_x14 {G : GT} {σ : ST} {n0 w z : Nat} {H : Heap} {A : Nat → Prop} {al : Bool} (h : Pic [] G (fil σ n0 (tw_L G.2.1 n0) w) H) (hA : ∀ q, n0 ≤ q → q < n0 + 45 → A q) : va_at (tw_G G n0 A al).1 lk_cl ((tw_G G n0 A al).2.2.1 14, fxe (tw_G G n0 A al) (tw_s0 z w) (.inl (0, 34, 10, 0))) H ∧ (tw_G G n0 A al).2.2.2.1 ((tw_G G n0 A al).2.2.1 14) := by
  rw [tw_e14, tw_a14]
  exact ⟨(h.2.2.1 (n0 + 14) _ (fil_g 14 rfl (tw_l14 G.2.1 n0))).1, hA (n0 + 14) (Nat.le_add_right _ _) (Nat.add_lt_add_left (by decide) _)⟩
theorem tw_e15 (G : GT) (n0 : Nat) (A : Nat → Prop) (al : Bool) (z w : Nat) : fxe (tw_G G n0 A al) (tw_s0 z w) (.inl (0, 35, 20, 0)) = ea_i G.2.1 0 20 := rfl
theorem tw_a15 (G : GT) (n0 : Nat) (A : Nat → Prop) (al : Bool) : (tw_G G n0 A al).2.2.1 15 = n0 + 15 := rfl
theorem tw_l15 (ks : Nat → ClassId) (n0 : Nat) : (tw_L ks n0)[15]? = some (ea_i ks 0 20) := rfl
theorem tw_x15 {G : GT} {σ : ST} {n0 w z : Nat} {H : Heap} {A : Nat → Prop} {al : Bool} (h : Pic [] G (fil σ n0 (tw_L G.2.1 n0) w) H) (hA : ∀ q, n0 ≤ q → q < n0 + 45 → A q) : va_at (tw_G G n0 A al).1 lk_cl ((tw_G G n0 A al).2.2.1 15, fxe (tw_G G n0 A al) (tw_s0 z w) (.inl (0, 35, 20, 0))) H ∧ (tw_G G n0 A al).2.2.2.1 ((tw_G G n0 A al).2.2.1 15) := by
  rw [tw_e15, tw_a15]
  exact ⟨(h.2.2.1 (n0 + 15) _ (fil_g 15 rfl (tw_l15 G.2.1 n0))).1, hA (n0 + 15) (Nat.le_add_right _ _) (Nat.add_lt_add_left (by decide) _)⟩
theorem tw_e16 (G : GT) (n0 : Nat) (A : Nat → Prop) (al : Bool) (z w : Nat) : fxe (tw_G G n0 A al) (tw_s0 z w) (.inl (0, 36, 20, 0)) = ea_i G.2.1 0 20 := rfl
theorem tw_a16 (G : GT) (n0 : Nat) (A : Nat → Prop) (al : Bool) : (tw_G G n0 A al).2.2.1 16 = n0 + 16 := rfl
theorem tw_l16 (ks : Nat → ClassId) (n0 : Nat) : (tw_L ks n0)[16]? = some (ea_i ks 0 20) := rfl
theorem tw_x16 {G : GT} {σ : ST} {n0 w z : Nat} {H : Heap} {A : Nat → Prop} {al : Bool} (h : Pic [] G (fil σ n0 (tw_L G.2.1 n0) w) H) (hA : ∀ q, n0 ≤ q → q < n0 + 45 → A q) : va_at (tw_G G n0 A al).1 lk_cl ((tw_G G n0 A al).2.2.1 16, fxe (tw_G G n0 A al) (tw_s0 z w) (.inl (0, 36, 20, 0))) H ∧ (tw_G G n0 A al).2.2.2.1 ((tw_G G n0 A al).2.2.1 16) := by
  rw [tw_e16, tw_a16]
  exact ⟨(h.2.2.1 (n0 + 16) _ (fil_g 16 rfl (tw_l16 G.2.1 n0))).1, hA (n0 + 16) (Nat.le_add_right _ _) (Nat.add_lt_add_left (by decide) _)⟩
theorem tw_e17 (G : GT) (n0 : Nat) (A : Nat → Prop) (al : Bool) (z w : Nat) : fxe (tw_G G n0 A al) (tw_s0 z w) (.inl (0, 37, 6, 0)) = ea_i G.2.1 0 6 := rfl
theorem tw_a17 (G : GT) (n0 : Nat) (A : Nat → Prop) (al : Bool) : (tw_G G n0 A al).2.2.1 17 = n0 + 17 := rfl
theorem tw_l17 (ks : Nat → ClassId) (n0 : Nat) : (tw_L ks n0)[17]? = some (ea_i ks 0 6) := rfl
theorem tw_x17 {G : GT} {σ : ST} {n0 w z : Nat} {H : Heap} {A : Nat → Prop} {al : Bool} (h : Pic [] G (fil σ n0 (tw_L G.2.1 n0) w) H) (hA : ∀ q, n0 ≤ q → q < n0 + 45 → A q) : va_at (tw_G G n0 A al).1 lk_cl ((tw_G G n0 A al).2.2.1 17, fxe (tw_G G n0 A al) (tw_s0 z w) (.inl (0, 37, 6, 0))) H ∧ (tw_G G n0 A al).2.2.2.1 ((tw_G G n0 A al).2.2.1 17) := by
  rw [tw_e17, tw_a17]
  exact ⟨(h.2.2.1 (n0 + 17) _ (fil_g 17 rfl (tw_l17 G.2.1 n0))).1, hA (n0 + 17) (Nat.le_add_right _ _) (Nat.add_lt_add_left (by decide) _)⟩
theorem tw_e18 (G : GT) (n0 : Nat) (A : Nat → Prop) (al : Bool) (z w : Nat) : fxe (tw_G G n0 A al) (tw_s0 z w) (.inl (0, 38, 6, 0)) = ea_i G.2.1 0 6 := rfl
theorem tw_a18 (G : GT) (n0 : Nat) (A : Nat → Prop) (al : Bool) : (tw_G G n0 A al).2.2.1 18 = n0 + 18 := rfl
theorem tw_l18 (ks : Nat → ClassId) (n0 : Nat) : (tw_L ks n0)[18]? = some (ea_i ks 0 6) := rfl
theorem tw_x18 {G : GT} {σ : ST} {n0 w z : Nat} {H : Heap} {A : Nat → Prop} {al : Bool} (h : Pic [] G (fil σ n0 (tw_L G.2.1 n0) w) H) (hA : ∀ q, n0 ≤ q → q < n0 + 45 → A q) : va_at (tw_G G n0 A al).1 lk_cl ((tw_G G n0 A al).2.2.1 18, fxe (tw_G G n0 A al) (tw_s0 z w) (.inl (0, 38, 6, 0))) H ∧ (tw_G G n0 A al).2.2.2.1 ((tw_G G n0 A al).2.2.1 18) := by
  rw [tw_e18, tw_a18]
  exact ⟨(h.2.2.1 (n0 + 18) _ (fil_g 18 rfl (tw_l18 G.2.1 n0))).1, hA (n0 + 18) (Nat.le_add_right _ _) (Nat.add_lt_add_left (by decide) _)⟩
theorem tw_e19 (G : GT) (n0 : Nat) (A : Nat → Prop) (al : Bool) (z w : Nat) : fxe (tw_G G n0 A al) (tw_s0 z w) (.inl (0, 39, 200, 0)) = ea_i G.2.1 0 200 := rfl
theorem tw_a19 (G : GT) (n0 : Nat) (A : Nat → Prop) (al : Bool) : (tw_G G n0 A al).2.2.1 19 = n0 + 19 := rfl
theorem tw_l19 (ks : Nat → ClassId) (n0 : Nat) : (tw_L ks n0)[19]? = some (ea_i ks 0 200) := rfl
theorem tw_x19 {G : GT} {σ : ST} {n0 w z : Nat} {H : Heap} {A : Nat → Prop} {al : Bool} (h : Pic [] G (fil σ n0 (tw_L G.2.1 n0) w) H) (hA : ∀ q, n0 ≤ q → q < n0 + 45 → A q) : va_at (tw_G G n0 A al).1 lk_cl ((tw_G G n0 A al).2.2.1 19, fxe (tw_G G n0 A al) (tw_s0 z w) (.inl (0, 39, 200, 0))) H ∧ (tw_G G n0 A al).2.2.2.1 ((tw_G G n0 A al).2.2.1 19) := by
  rw [tw_e19, tw_a19]
  exact ⟨(h.2.2.1 (n0 + 19) _ (fil_g 19 rfl (tw_l19 G.2.1 n0))).1, hA (n0 + 19) (Nat.le_add_right _ _) (Nat.add_lt_add_left (by decide) _)⟩
theorem tw_e20 (G : GT) (n0 : Nat) (A : Nat → Prop) (al : Bool) (z w : Nat) : fxe (tw_G G n0 A al) (tw_s0 z w) (.inl (0, 40, 200, 0)) = ea_i G.2.1 0 200 := rfl
theorem tw_a20 (G : GT) (n0 : Nat) (A : Nat → Prop) (al : Bool) : (tw_G G n0 A al).2.2.1 20 = n0 + 20 := rfl
theorem tw_l20 (ks : Nat → ClassId) (n0 : Nat) : (tw_L ks n0)[20]? = some (ea_i ks 0 200) := rfl
theorem tw_x20 {G : GT} {σ : ST} {n0 w z : Nat} {H : Heap} {A : Nat → Prop} {al : Bool} (h : Pic [] G (fil σ n0 (tw_L G.2.1 n0) w) H) (hA : ∀ q, n0 ≤ q → q < n0 + 45 → A q) : va_at (tw_G G n0 A al).1 lk_cl ((tw_G G n0 A al).2.2.1 20, fxe (tw_G G n0 A al) (tw_s0 z w) (.inl (0, 40, 200, 0))) H ∧ (tw_G G n0 A al).2.2.2.1 ((tw_G G n0 A al).2.2.1 20) := by
  rw [tw_e20, tw_a20]
  exact ⟨(h.2.2.1 (n0 + 20) _ (fil_g 20 rfl (tw_l20 G.2.1 n0))).1, hA (n0 + 20) (Nat.le_add_right _ _) (Nat.add_lt_add_left (by decide) _)⟩
theorem tw_e21 (G : GT) (n0 : Nat) (A : Nat → Prop) (al : Bool) (z w : Nat) : fxe (tw_G G n0 A al) (tw_s0 z w) (.inl (0, 41, 200, 0)) = ea_i G.2.1 0 200 := rfl
theorem tw_a21 (G : GT) (n0 : Nat) (A : Nat → Prop) (al : Bool) : (tw_G G n0 A al).2.2.1 21 = n0 + 21 := rfl
theorem tw_l21 (ks : Nat → ClassId) (n0 : Nat) : (tw_L ks n0)[21]? = some (ea_i ks 0 200) := rfl
theorem tw_x21 {G : GT} {σ : ST} {n0 w z : Nat} {H : Heap} {A : Nat → Prop} {al : Bool} (h : Pic [] G (fil σ n0 (tw_L G.2.1 n0) w) H) (hA : ∀ q, n0 ≤ q → q < n0 + 45 → A q) : va_at (tw_G G n0 A al).1 lk_cl ((tw_G G n0 A al).2.2.1 21, fxe (tw_G G n0 A al) (tw_s0 z w) (.inl (0, 41, 200, 0))) H ∧ (tw_G G n0 A al).2.2.2.1 ((tw_G G n0 A al).2.2.1 21) := by
  rw [tw_e21, tw_a21]
  exact ⟨(h.2.2.1 (n0 + 21) _ (fil_g 21 rfl (tw_l21 G.2.1 n0))).1, hA (n0 + 21) (Nat.le_add_right _ _) (Nat.add_lt_add_left (by decide) _)⟩
theorem tw_e22 (G : GT) (n0 : Nat) (A : Nat → Prop) (al : Bool) (z w : Nat) : fxe (tw_G G n0 A al) (tw_s0 z w) (.inl (0, 42, 200, 0)) = ea_i G.2.1 0 200 := rfl
theorem tw_a22 (G : GT) (n0 : Nat) (A : Nat → Prop) (al : Bool) : (tw_G G n0 A al).2.2.1 22 = n0 + 22 := rfl
theorem tw_l22 (ks : Nat → ClassId) (n0 : Nat) : (tw_L ks n0)[22]? = some (ea_i ks 0 200) := rfl
theorem tw_x22 {G : GT} {σ : ST} {n0 w z : Nat} {H : Heap} {A : Nat → Prop} {al : Bool} (h : Pic [] G (fil σ n0 (tw_L G.2.1 n0) w) H) (hA : ∀ q, n0 ≤ q → q < n0 + 45 → A q) : va_at (tw_G G n0 A al).1 lk_cl ((tw_G G n0 A al).2.2.1 22, fxe (tw_G G n0 A al) (tw_s0 z w) (.inl (0, 42, 200, 0))) H ∧ (tw_G G n0 A al).2.2.2.1 ((tw_G G n0 A al).2.2.1 22) := by
  rw [tw_e22, tw_a22]
  exact ⟨(h.2.2.1 (n0 + 22) _ (fil_g 22 rfl (tw_l22 G.2.1 n0))).1, hA (n0 + 22) (Nat.le_add_right _ _) (Nat.add_lt_add_left (by decide) _)⟩
theorem tw_e23 (G : GT) (n0 : Nat) (A : Nat → Prop) (al : Bool) (z w : Nat) : fxe (tw_G G n0 A al) (tw_s0 z w) (.inl (0, 43, 200, 0)) = ea_i G.2.1 0 200 := rfl
theorem tw_a23 (G : GT) (n0 : Nat) (A : Nat → Prop) (al : Bool) : (tw_G G n0 A al).2.2.1 23 = n0 + 23 := rfl
theorem tw_l23 (ks : Nat → ClassId) (n0 : Nat) : (tw_L ks n0)[23]? = some (ea_i ks 0 200) := rfl
theorem tw_x23 {G : GT} {σ : ST} {n0 w z : Nat} {H : Heap} {A : Nat → Prop} {al : Bool} (h : Pic [] G (fil σ n0 (tw_L G.2.1 n0) w) H) (hA : ∀ q, n0 ≤ q → q < n0 + 45 → A q) : va_at (tw_G G n0 A al).1 lk_cl ((tw_G G n0 A al).2.2.1 23, fxe (tw_G G n0 A al) (tw_s0 z w) (.inl (0, 43, 200, 0))) H ∧ (tw_G G n0 A al).2.2.2.1 ((tw_G G n0 A al).2.2.1 23) := by
  rw [tw_e23, tw_a23]
  exact ⟨(h.2.2.1 (n0 + 23) _ (fil_g 23 rfl (tw_l23 G.2.1 n0))).1, hA (n0 + 23) (Nat.le_add_right _ _) (Nat.add_lt_add_left (by decide) _)⟩
theorem tw_e24 (G : GT) (n0 : Nat) (A : Nat → Prop) (al : Bool) (z w : Nat) : fxe (tw_G G n0 A al) (tw_s0 z w) (.inl (0, 44, 200, 0)) = ea_i G.2.1 0 200 := rfl
theorem tw_a24 (G : GT) (n0 : Nat) (A : Nat → Prop) (al : Bool) : (tw_G G n0 A al).2.2.1 24 = n0 + 24 := rfl
theorem tw_l24 (ks : Nat → ClassId) (n0 : Nat) : (tw_L ks n0)[24]? = some (ea_i ks 0 200) := rfl
theorem tw_x24 {G : GT} {σ : ST} {n0 w z : Nat} {H : Heap} {A : Nat → Prop} {al : Bool} (h : Pic [] G (fil σ n0 (tw_L G.2.1 n0) w) H) (hA : ∀ q, n0 ≤ q → q < n0 + 45 → A q) : va_at (tw_G G n0 A al).1 lk_cl ((tw_G G n0 A al).2.2.1 24, fxe (tw_G G n0 A al) (tw_s0 z w) (.inl (0, 44, 200, 0))) H ∧ (tw_G G n0 A al).2.2.2.1 ((tw_G G n0 A al).2.2.1 24) := by
  rw [tw_e24, tw_a24]
  exact ⟨(h.2.2.1 (n0 + 24) _ (fil_g 24 rfl (tw_l24 G.2.1 n0))).1, hA (n0 + 24) (Nat.le_add_right _ _) (Nat.add_lt_add_left (by decide) _)⟩
theorem tw_e25 (G : GT) (n0 : Nat) (A : Nat → Prop) (al : Bool) (z w : Nat) : fxe (tw_G G n0 A al) (tw_s0 z w) (.inl (0, 45, 200, 0)) = ea_i G.2.1 0 200 := rfl
theorem tw_a25 (G : GT) (n0 : Nat) (A : Nat → Prop) (al : Bool) : (tw_G G n0 A al).2.2.1 25 = n0 + 25 := rfl
theorem tw_l25 (ks : Nat → ClassId) (n0 : Nat) : (tw_L ks n0)[25]? = some (ea_i ks 0 200) := rfl
theorem tw_x25 {G : GT} {σ : ST} {n0 w z : Nat} {H : Heap} {A : Nat → Prop} {al : Bool} (h : Pic [] G (fil σ n0 (tw_L G.2.1 n0) w) H) (hA : ∀ q, n0 ≤ q → q < n0 + 45 → A q) : va_at (tw_G G n0 A al).1 lk_cl ((tw_G G n0 A al).2.2.1 25, fxe (tw_G G n0 A al) (tw_s0 z w) (.inl (0, 45, 200, 0))) H ∧ (tw_G G n0 A al).2.2.2.1 ((tw_G G n0 A al).2.2.1 25) := by
  rw [tw_e25, tw_a25]
  exact ⟨(h.2.2.1 (n0 + 25) _ (fil_g 25 rfl (tw_l25 G.2.1 n0))).1, hA (n0 + 25) (Nat.le_add_right _ _) (Nat.add_lt_add_left (by decide) _)⟩
theorem tw_e26 (G : GT) (n0 : Nat) (A : Nat → Prop) (al : Bool) (z w : Nat) : fxe (tw_G G n0 A al) (tw_s0 z w) (.inl (0, 50, 10, 0)) = ea_i G.2.1 0 10 := rfl
theorem tw_a26 (G : GT) (n0 : Nat) (A : Nat → Prop) (al : Bool) : (tw_G G n0 A al).2.2.1 26 = n0 + 26 := rfl
theorem tw_l26 (ks : Nat → ClassId) (n0 : Nat) : (tw_L ks n0)[26]? = some (ea_i ks 0 10) := rfl
theorem tw_x26 {G : GT} {σ : ST} {n0 w z : Nat} {H : Heap} {A : Nat → Prop} {al : Bool} (h : Pic [] G (fil σ n0 (tw_L G.2.1 n0) w) H) (hA : ∀ q, n0 ≤ q → q < n0 + 45 → A q) : va_at (tw_G G n0 A al).1 lk_cl ((tw_G G n0 A al).2.2.1 26, fxe (tw_G G n0 A al) (tw_s0 z w) (.inl (0, 50, 10, 0))) H ∧ (tw_G G n0 A al).2.2.2.1 ((tw_G G n0 A al).2.2.1 26) := by
  rw [tw_e26, tw_a26]
  exact ⟨(h.2.2.1 (n0 + 26) _ (fil_g 26 rfl (tw_l26 G.2.1 n0))).1, hA (n0 + 26) (Nat.le_add_right _ _) (Nat.add_lt_add_left (by decide) _)⟩
theorem tw_e27 (G : GT) (n0 : Nat) (A : Nat → Prop) (al : Bool) (z w : Nat) : fxe (tw_G G n0 A al) (tw_s0 z w) (.inl (0, 51, 200, 0)) = ea_i G.2.1 0 200 := rfl
theorem tw_a27 (G : GT) (n0 : Nat) (A : Nat → Prop) (al : Bool) : (tw_G G n0 A al).2.2.1 27 = n0 + 27 := rfl
theorem tw_l27 (ks : Nat → ClassId) (n0 : Nat) : (tw_L ks n0)[27]? = some (ea_i ks 0 200) := rfl
theorem tw_x27 {G : GT} {σ : ST} {n0 w z : Nat} {H : Heap} {A : Nat → Prop} {al : Bool} (h : Pic [] G (fil σ n0 (tw_L G.2.1 n0) w) H) (hA : ∀ q, n0 ≤ q → q < n0 + 45 → A q) : va_at (tw_G G n0 A al).1 lk_cl ((tw_G G n0 A al).2.2.1 27, fxe (tw_G G n0 A al) (tw_s0 z w) (.inl (0, 51, 200, 0))) H ∧ (tw_G G n0 A al).2.2.2.1 ((tw_G G n0 A al).2.2.1 27) := by
  rw [tw_e27, tw_a27]
  exact ⟨(h.2.2.1 (n0 + 27) _ (fil_g 27 rfl (tw_l27 G.2.1 n0))).1, hA (n0 + 27) (Nat.le_add_right _ _) (Nat.add_lt_add_left (by decide) _)⟩
theorem tw_e28 (G : GT) (n0 : Nat) (A : Nat → Prop) (al : Bool) (z w : Nat) : fxe (tw_G G n0 A al) (tw_s0 z w) (.inl (0, 52, 200, 0)) = ea_i G.2.1 0 200 := rfl
theorem tw_a28 (G : GT) (n0 : Nat) (A : Nat → Prop) (al : Bool) : (tw_G G n0 A al).2.2.1 28 = n0 + 28 := rfl
theorem tw_l28 (ks : Nat → ClassId) (n0 : Nat) : (tw_L ks n0)[28]? = some (ea_i ks 0 200) := rfl
theorem tw_x28 {G : GT} {σ : ST} {n0 w z : Nat} {H : Heap} {A : Nat → Prop} {al : Bool} (h : Pic [] G (fil σ n0 (tw_L G.2.1 n0) w) H) (hA : ∀ q, n0 ≤ q → q < n0 + 45 → A q) : va_at (tw_G G n0 A al).1 lk_cl ((tw_G G n0 A al).2.2.1 28, fxe (tw_G G n0 A al) (tw_s0 z w) (.inl (0, 52, 200, 0))) H ∧ (tw_G G n0 A al).2.2.2.1 ((tw_G G n0 A al).2.2.1 28) := by
  rw [tw_e28, tw_a28]
  exact ⟨(h.2.2.1 (n0 + 28) _ (fil_g 28 rfl (tw_l28 G.2.1 n0))).1, hA (n0 + 28) (Nat.le_add_right _ _) (Nat.add_lt_add_left (by decide) _)⟩
theorem tw_e29 (G : GT) (n0 : Nat) (A : Nat → Prop) (al : Bool) (z w : Nat) : fxe (tw_G G n0 A al) (tw_s0 z w) (.inl (0, 53, 200, 0)) = ea_i G.2.1 0 200 := rfl
theorem tw_a29 (G : GT) (n0 : Nat) (A : Nat → Prop) (al : Bool) : (tw_G G n0 A al).2.2.1 29 = n0 + 29 := rfl
theorem tw_l29 (ks : Nat → ClassId) (n0 : Nat) : (tw_L ks n0)[29]? = some (ea_i ks 0 200) := rfl
theorem tw_x29 {G : GT} {σ : ST} {n0 w z : Nat} {H : Heap} {A : Nat → Prop} {al : Bool} (h : Pic [] G (fil σ n0 (tw_L G.2.1 n0) w) H) (hA : ∀ q, n0 ≤ q → q < n0 + 45 → A q) : va_at (tw_G G n0 A al).1 lk_cl ((tw_G G n0 A al).2.2.1 29, fxe (tw_G G n0 A al) (tw_s0 z w) (.inl (0, 53, 200, 0))) H ∧ (tw_G G n0 A al).2.2.2.1 ((tw_G G n0 A al).2.2.1 29) := by
  rw [tw_e29, tw_a29]
  exact ⟨(h.2.2.1 (n0 + 29) _ (fil_g 29 rfl (tw_l29 G.2.1 n0))).1, hA (n0 + 29) (Nat.le_add_right _ _) (Nat.add_lt_add_left (by decide) _)⟩
theorem tw_e30 (G : GT) (n0 : Nat) (A : Nat → Prop) (al : Bool) (z w : Nat) : fxe (tw_G G n0 A al) (tw_s0 z w) (.inl (0, 54, 200, 0)) = ea_i G.2.1 0 200 := rfl
theorem tw_a30 (G : GT) (n0 : Nat) (A : Nat → Prop) (al : Bool) : (tw_G G n0 A al).2.2.1 30 = n0 + 30 := rfl
theorem tw_l30 (ks : Nat → ClassId) (n0 : Nat) : (tw_L ks n0)[30]? = some (ea_i ks 0 200) := rfl
theorem tw_x30 {G : GT} {σ : ST} {n0 w z : Nat} {H : Heap} {A : Nat → Prop} {al : Bool} (h : Pic [] G (fil σ n0 (tw_L G.2.1 n0) w) H) (hA : ∀ q, n0 ≤ q → q < n0 + 45 → A q) : va_at (tw_G G n0 A al).1 lk_cl ((tw_G G n0 A al).2.2.1 30, fxe (tw_G G n0 A al) (tw_s0 z w) (.inl (0, 54, 200, 0))) H ∧ (tw_G G n0 A al).2.2.2.1 ((tw_G G n0 A al).2.2.1 30) := by
  rw [tw_e30, tw_a30]
  exact ⟨(h.2.2.1 (n0 + 30) _ (fil_g 30 rfl (tw_l30 G.2.1 n0))).1, hA (n0 + 30) (Nat.le_add_right _ _) (Nat.add_lt_add_left (by decide) _)⟩
theorem tw_e31 (G : GT) (n0 : Nat) (A : Nat → Prop) (al : Bool) (z w : Nat) : fxe (tw_G G n0 A al) (tw_s0 z w) (.inl (0, 55, 200, 0)) = ea_i G.2.1 0 200 := rfl
theorem tw_a31 (G : GT) (n0 : Nat) (A : Nat → Prop) (al : Bool) : (tw_G G n0 A al).2.2.1 31 = n0 + 31 := rfl
theorem tw_l31 (ks : Nat → ClassId) (n0 : Nat) : (tw_L ks n0)[31]? = some (ea_i ks 0 200) := rfl
theorem tw_x31 {G : GT} {σ : ST} {n0 w z : Nat} {H : Heap} {A : Nat → Prop} {al : Bool} (h : Pic [] G (fil σ n0 (tw_L G.2.1 n0) w) H) (hA : ∀ q, n0 ≤ q → q < n0 + 45 → A q) : va_at (tw_G G n0 A al).1 lk_cl ((tw_G G n0 A al).2.2.1 31, fxe (tw_G G n0 A al) (tw_s0 z w) (.inl (0, 55, 200, 0))) H ∧ (tw_G G n0 A al).2.2.2.1 ((tw_G G n0 A al).2.2.1 31) := by
  rw [tw_e31, tw_a31]
  exact ⟨(h.2.2.1 (n0 + 31) _ (fil_g 31 rfl (tw_l31 G.2.1 n0))).1, hA (n0 + 31) (Nat.le_add_right _ _) (Nat.add_lt_add_left (by decide) _)⟩
theorem tw_e32 (G : GT) (n0 : Nat) (A : Nat → Prop) (al : Bool) (z w : Nat) : fxe (tw_G G n0 A al) (tw_s0 z w) (.inl (0, 56, 200, 0)) = ea_i G.2.1 0 200 := rfl
theorem tw_a32 (G : GT) (n0 : Nat) (A : Nat → Prop) (al : Bool) : (tw_G G n0 A al).2.2.1 32 = n0 + 32 := rfl
theorem tw_l32 (ks : Nat → ClassId) (n0 : Nat) : (tw_L ks n0)[32]? = some (ea_i ks 0 200) := rfl
theorem tw_x32 {G : GT} {σ : ST} {n0 w z : Nat} {H : Heap} {A : Nat → Prop} {al : Bool} (h : Pic [] G (fil σ n0 (tw_L G.2.1 n0) w) H) (hA : ∀ q, n0 ≤ q → q < n0 + 45 → A q) : va_at (tw_G G n0 A al).1 lk_cl ((tw_G G n0 A al).2.2.1 32, fxe (tw_G G n0 A al) (tw_s0 z w) (.inl (0, 56, 200, 0))) H ∧ (tw_G G n0 A al).2.2.2.1 ((tw_G G n0 A al).2.2.1 32) := by
  rw [tw_e32, tw_a32]
  exact ⟨(h.2.2.1 (n0 + 32) _ (fil_g 32 rfl (tw_l32 G.2.1 n0))).1, hA (n0 + 32) (Nat.le_add_right _ _) (Nat.add_lt_add_left (by decide) _)⟩
theorem tw_e33 (G : GT) (n0 : Nat) (A : Nat → Prop) (al : Bool) (z w : Nat) : fxe (tw_G G n0 A al) (tw_s0 z w) (.inl (0, 57, 200, 0)) = ea_i G.2.1 0 200 := rfl
theorem tw_a33 (G : GT) (n0 : Nat) (A : Nat → Prop) (al : Bool) : (tw_G G n0 A al).2.2.1 33 = n0 + 33 := rfl
theorem tw_l33 (ks : Nat → ClassId) (n0 : Nat) : (tw_L ks n0)[33]? = some (ea_i ks 0 200) := rfl
theorem tw_x33 {G : GT} {σ : ST} {n0 w z : Nat} {H : Heap} {A : Nat → Prop} {al : Bool} (h : Pic [] G (fil σ n0 (tw_L G.2.1 n0) w) H) (hA : ∀ q, n0 ≤ q → q < n0 + 45 → A q) : va_at (tw_G G n0 A al).1 lk_cl ((tw_G G n0 A al).2.2.1 33, fxe (tw_G G n0 A al) (tw_s0 z w) (.inl (0, 57, 200, 0))) H ∧ (tw_G G n0 A al).2.2.2.1 ((tw_G G n0 A al).2.2.1 33) := by
  rw [tw_e33, tw_a33]
  exact ⟨(h.2.2.1 (n0 + 33) _ (fil_g 33 rfl (tw_l33 G.2.1 n0))).1, hA (n0 + 33) (Nat.le_add_right _ _) (Nat.add_lt_add_left (by decide) _)⟩
theorem tw_e34 (G : GT) (n0 : Nat) (A : Nat → Prop) (al : Bool) (z w : Nat) : fxe (tw_G G n0 A al) (tw_s0 z w) (.inl (0, 58, 6, 0)) = ea_i G.2.1 0 6 := rfl
theorem tw_a34 (G : GT) (n0 : Nat) (A : Nat → Prop) (al : Bool) : (tw_G G n0 A al).2.2.1 34 = n0 + 34 := rfl
theorem tw_l34 (ks : Nat → ClassId) (n0 : Nat) : (tw_L ks n0)[34]? = some (ea_i ks 0 6) := rfl
theorem tw_x34 {G : GT} {σ : ST} {n0 w z : Nat} {H : Heap} {A : Nat → Prop} {al : Bool} (h : Pic [] G (fil σ n0 (tw_L G.2.1 n0) w) H) (hA : ∀ q, n0 ≤ q → q < n0 + 45 → A q) : va_at (tw_G G n0 A al).1 lk_cl ((tw_G G n0 A al).2.2.1 34, fxe (tw_G G n0 A al) (tw_s0 z w) (.inl (0, 58, 6, 0))) H ∧ (tw_G G n0 A al).2.2.2.1 ((tw_G G n0 A al).2.2.1 34) := by
  rw [tw_e34, tw_a34]
  exact ⟨(h.2.2.1 (n0 + 34) _ (fil_g 34 rfl (tw_l34 G.2.1 n0))).1, hA (n0 + 34) (Nat.le_add_right _ _) (Nat.add_lt_add_left (by decide) _)⟩
theorem tw_e35 (G : GT) (n0 : Nat) (A : Nat → Prop) (al : Bool) (z w : Nat) : fxe (tw_G G n0 A al) (tw_s0 z w) (.inl (0, 59, 6, 0)) = ea_i G.2.1 0 6 := rfl
theorem tw_a35 (G : GT) (n0 : Nat) (A : Nat → Prop) (al : Bool) : (tw_G G n0 A al).2.2.1 35 = n0 + 35 := rfl
theorem tw_l35 (ks : Nat → ClassId) (n0 : Nat) : (tw_L ks n0)[35]? = some (ea_i ks 0 6) := rfl
theorem tw_x35 {G : GT} {σ : ST} {n0 w z : Nat} {H : Heap} {A : Nat → Prop} {al : Bool} (h : Pic [] G (fil σ n0 (tw_L G.2.1 n0) w) H) (hA : ∀ q, n0 ≤ q → q < n0 + 45 → A q) : va_at (tw_G G n0 A al).1 lk_cl ((tw_G G n0 A al).2.2.1 35, fxe (tw_G G n0 A al) (tw_s0 z w) (.inl (0, 59, 6, 0))) H ∧ (tw_G G n0 A al).2.2.2.1 ((tw_G G n0 A al).2.2.1 35) := by
  rw [tw_e35, tw_a35]
  exact ⟨(h.2.2.1 (n0 + 35) _ (fil_g 35 rfl (tw_l35 G.2.1 n0))).1, hA (n0 + 35) (Nat.le_add_right _ _) (Nat.add_lt_add_left (by decide) _)⟩
theorem tw_e36 (G : GT) (n0 : Nat) (A : Nat → Prop) (al : Bool) (z w : Nat) : fxe (tw_G G n0 A al) (tw_s0 z w) (.inl (0, 60, 20, 0)) = ea_i G.2.1 0 20 := rfl
theorem tw_a36 (G : GT) (n0 : Nat) (A : Nat → Prop) (al : Bool) : (tw_G G n0 A al).2.2.1 36 = n0 + 36 := rfl
theorem tw_l36 (ks : Nat → ClassId) (n0 : Nat) : (tw_L ks n0)[36]? = some (ea_i ks 0 20) := rfl
theorem tw_x36 {G : GT} {σ : ST} {n0 w z : Nat} {H : Heap} {A : Nat → Prop} {al : Bool} (h : Pic [] G (fil σ n0 (tw_L G.2.1 n0) w) H) (hA : ∀ q, n0 ≤ q → q < n0 + 45 → A q) : va_at (tw_G G n0 A al).1 lk_cl ((tw_G G n0 A al).2.2.1 36, fxe (tw_G G n0 A al) (tw_s0 z w) (.inl (0, 60, 20, 0))) H ∧ (tw_G G n0 A al).2.2.2.1 ((tw_G G n0 A al).2.2.1 36) := by
  rw [tw_e36, tw_a36]
  exact ⟨(h.2.2.1 (n0 + 36) _ (fil_g 36 rfl (tw_l36 G.2.1 n0))).1, hA (n0 + 36) (Nat.le_add_right _ _) (Nat.add_lt_add_left (by decide) _)⟩
theorem tw_e37 (G : GT) (n0 : Nat) (A : Nat → Prop) (al : Bool) (z w : Nat) : fxe (tw_G G n0 A al) (tw_s0 z w) (.inl (0, 61, 20, 0)) = ea_i G.2.1 0 20 := rfl
theorem tw_a37 (G : GT) (n0 : Nat) (A : Nat → Prop) (al : Bool) : (tw_G G n0 A al).2.2.1 37 = n0 + 37 := rfl
theorem tw_l37 (ks : Nat → ClassId) (n0 : Nat) : (tw_L ks n0)[37]? = some (ea_i ks 0 20) := rfl
theorem tw_x37 {G : GT} {σ : ST} {n0 w z : Nat} {H : Heap} {A : Nat → Prop} {al : Bool} (h : Pic [] G (fil σ n0 (tw_L G.2.1 n0) w) H) (hA : ∀ q, n0 ≤ q → q < n0 + 45 → A q) : va_at (tw_G G n0 A al).1 lk_cl ((tw_G G n0 A al).2.2.1 37, fxe (tw_G G n0 A al) (tw_s0 z w) (.inl (0, 61, 20, 0))) H ∧ (tw_G G n0 A al).2.2.2.1 ((tw_G G n0 A al).2.2.1 37) := by
  rw [tw_e37, tw_a37]
  exact ⟨(h.2.2.1 (n0 + 37) _ (fil_g 37 rfl (tw_l37 G.2.1 n0))).1, hA (n0 + 37) (Nat.le_add_right _ _) (Nat.add_lt_add_left (by decide) _)⟩
theorem tw_e38 (G : GT) (n0 : Nat) (A : Nat → Prop) (al : Bool) (z w : Nat) : fxe (tw_G G n0 A al) (tw_s0 z w) (.inl (0, 62, 10, 0)) = ea_i G.2.1 0 10 := rfl
theorem tw_a38 (G : GT) (n0 : Nat) (A : Nat → Prop) (al : Bool) : (tw_G G n0 A al).2.2.1 38 = n0 + 38 := rfl
theorem tw_l38 (ks : Nat → ClassId) (n0 : Nat) : (tw_L ks n0)[38]? = some (ea_i ks 0 10) := rfl
theorem tw_x38 {G : GT} {σ : ST} {n0 w z : Nat} {H : Heap} {A : Nat → Prop} {al : Bool} (h : Pic [] G (fil σ n0 (tw_L G.2.1 n0) w) H) (hA : ∀ q, n0 ≤ q → q < n0 + 45 → A q) : va_at (tw_G G n0 A al).1 lk_cl ((tw_G G n0 A al).2.2.1 38, fxe (tw_G G n0 A al) (tw_s0 z w) (.inl (0, 62, 10, 0))) H ∧ (tw_G G n0 A al).2.2.2.1 ((tw_G G n0 A al).2.2.1 38) := by
  rw [tw_e38, tw_a38]
  exact ⟨(h.2.2.1 (n0 + 38) _ (fil_g 38 rfl (tw_l38 G.2.1 n0))).1, hA (n0 + 38) (Nat.le_add_right _ _) (Nat.add_lt_add_left (by decide) _)⟩
theorem tw_e39 (G : GT) (n0 : Nat) (A : Nat → Prop) (al : Bool) (z w : Nat) : fxe (tw_G G n0 A al) (tw_s0 z w) (.inl (0, 67, 50, 0)) = ea_i G.2.1 0 50 := rfl
theorem tw_a39 (G : GT) (n0 : Nat) (A : Nat → Prop) (al : Bool) : (tw_G G n0 A al).2.2.1 39 = n0 + 39 := rfl
theorem tw_l39 (ks : Nat → ClassId) (n0 : Nat) : (tw_L ks n0)[39]? = some (ea_i ks 0 50) := rfl
theorem tw_x39 {G : GT} {σ : ST} {n0 w z : Nat} {H : Heap} {A : Nat → Prop} {al : Bool} (h : Pic [] G (fil σ n0 (tw_L G.2.1 n0) w) H) (hA : ∀ q, n0 ≤ q → q < n0 + 45 → A q) : va_at (tw_G G n0 A al).1 lk_cl ((tw_G G n0 A al).2.2.1 39, fxe (tw_G G n0 A al) (tw_s0 z w) (.inl (0, 67, 50, 0))) H ∧ (tw_G G n0 A al).2.2.2.1 ((tw_G G n0 A al).2.2.1 39) := by
  rw [tw_e39, tw_a39]
  exact ⟨(h.2.2.1 (n0 + 39) _ (fil_g 39 rfl (tw_l39 G.2.1 n0))).1, hA (n0 + 39) (Nat.le_add_right _ _) (Nat.add_lt_add_left (by decide) _)⟩
theorem tw_e40 (G : GT) (n0 : Nat) (A : Nat → Prop) (al : Bool) (z w : Nat) : fxe (tw_G G n0 A al) (tw_s0 z w) (.inl (0, 68, 24, 0)) = ea_i G.2.1 0 24 := rfl
theorem tw_a40 (G : GT) (n0 : Nat) (A : Nat → Prop) (al : Bool) : (tw_G G n0 A al).2.2.1 40 = n0 + 40 := rfl
theorem tw_l40 (ks : Nat → ClassId) (n0 : Nat) : (tw_L ks n0)[40]? = some (ea_i ks 0 24) := rfl
theorem tw_x40 {G : GT} {σ : ST} {n0 w z : Nat} {H : Heap} {A : Nat → Prop} {al : Bool} (h : Pic [] G (fil σ n0 (tw_L G.2.1 n0) w) H) (hA : ∀ q, n0 ≤ q → q < n0 + 45 → A q) : va_at (tw_G G n0 A al).1 lk_cl ((tw_G G n0 A al).2.2.1 40, fxe (tw_G G n0 A al) (tw_s0 z w) (.inl (0, 68, 24, 0))) H ∧ (tw_G G n0 A al).2.2.2.1 ((tw_G G n0 A al).2.2.1 40) := by
  rw [tw_e40, tw_a40]
  exact ⟨(h.2.2.1 (n0 + 40) _ (fil_g 40 rfl (tw_l40 G.2.1 n0))).1, hA (n0 + 40) (Nat.le_add_right _ _) (Nat.add_lt_add_left (by decide) _)⟩
theorem tw_e41 (G : GT) (n0 : Nat) (A : Nat → Prop) (al : Bool) (z w : Nat) : fxe (tw_G G n0 A al) (tw_s0 z w) (.inl (0, 72, 6, 0)) = .inl (G.2.1 0, 6, .inl (upd (upd (upd (upd (upd (upd (fun _ => 0) 0 (-1)) 1 (-1)) 2 (-1)) 3 (-1)) 4 (-1)) 5 (-1))) := rfl
theorem tw_a41 (G : GT) (n0 : Nat) (A : Nat → Prop) (al : Bool) : (tw_G G n0 A al).2.2.1 41 = n0 + 41 := rfl
theorem tw_l41 (ks : Nat → ClassId) (n0 : Nat) : (tw_L ks n0)[41]? = some (.inl (ks 0, 6, .inl (upd (upd (upd (upd (upd (upd (fun _ => 0) 0 (-1)) 1 (-1)) 2 (-1)) 3 (-1)) 4 (-1)) 5 (-1)))) := rfl
theorem tw_x41 {G : GT} {σ : ST} {n0 w z : Nat} {H : Heap} {A : Nat → Prop} {al : Bool} (h : Pic [] G (fil σ n0 (tw_L G.2.1 n0) w) H) (hA : ∀ q, n0 ≤ q → q < n0 + 45 → A q) : va_at (tw_G G n0 A al).1 lk_cl ((tw_G G n0 A al).2.2.1 41, fxe (tw_G G n0 A al) (tw_s0 z w) (.inl (0, 72, 6, 0))) H ∧ (tw_G G n0 A al).2.2.2.1 ((tw_G G n0 A al).2.2.1 41) := by
  rw [tw_e41, tw_a41]
  exact ⟨(h.2.2.1 (n0 + 41) _ (fil_g 41 rfl (tw_l41 G.2.1 n0))).1, hA (n0 + 41) (Nat.le_add_right _ _) (Nat.add_lt_add_left (by decide) _)⟩
theorem tw_e42 (G : GT) (n0 : Nat) (A : Nat → Prop) (al : Bool) (z w : Nat) : fxe (tw_G G n0 A al) (tw_s0 z w) (.inl (0, 73, 6, 0)) = ea_i G.2.1 0 6 := rfl
theorem tw_a42 (G : GT) (n0 : Nat) (A : Nat → Prop) (al : Bool) : (tw_G G n0 A al).2.2.1 42 = n0 + 42 := rfl
theorem tw_l42 (ks : Nat → ClassId) (n0 : Nat) : (tw_L ks n0)[42]? = some (ea_i ks 0 6) := rfl
theorem tw_x42 {G : GT} {σ : ST} {n0 w z : Nat} {H : Heap} {A : Nat → Prop} {al : Bool} (h : Pic [] G (fil σ n0 (tw_L G.2.1 n0) w) H) (hA : ∀ q, n0 ≤ q → q < n0 + 45 → A q) : va_at (tw_G G n0 A al).1 lk_cl ((tw_G G n0 A al).2.2.1 42, fxe (tw_G G n0 A al) (tw_s0 z w) (.inl (0, 73, 6, 0))) H ∧ (tw_G G n0 A al).2.2.2.1 ((tw_G G n0 A al).2.2.1 42) := by
  rw [tw_e42, tw_a42]
  exact ⟨(h.2.2.1 (n0 + 42) _ (fil_g 42 rfl (tw_l42 G.2.1 n0))).1, hA (n0 + 42) (Nat.le_add_right _ _) (Nat.add_lt_add_left (by decide) _)⟩
theorem tw_e43 (G : GT) (n0 : Nat) (A : Nat → Prop) (al : Bool) (z w : Nat) : fxe (tw_G G n0 A al) (tw_s0 z w) (.inl (0, 74, 360, 2)) = ea_l G.2.1 2 360 := rfl
theorem tw_a43 (G : GT) (n0 : Nat) (A : Nat → Prop) (al : Bool) : (tw_G G n0 A al).2.2.1 43 = n0 + 43 := rfl
theorem tw_l43 (ks : Nat → ClassId) (n0 : Nat) : (tw_L ks n0)[43]? = some (ea_l ks 2 360) := rfl
theorem tw_x43 {G : GT} {σ : ST} {n0 w z : Nat} {H : Heap} {A : Nat → Prop} {al : Bool} (h : Pic [] G (fil σ n0 (tw_L G.2.1 n0) w) H) (hA : ∀ q, n0 ≤ q → q < n0 + 45 → A q) : va_at (tw_G G n0 A al).1 lk_cl ((tw_G G n0 A al).2.2.1 43, fxe (tw_G G n0 A al) (tw_s0 z w) (.inl (0, 74, 360, 2))) H ∧ (tw_G G n0 A al).2.2.2.1 ((tw_G G n0 A al).2.2.1 43) := by
  rw [tw_e43, tw_a43]
  exact ⟨(h.2.2.1 (n0 + 43) _ (fil_g 43 rfl (tw_l43 G.2.1 n0))).1, hA (n0 + 43) (Nat.le_add_right _ _) (Nat.add_lt_add_left (by decide) _)⟩
theorem tw_e44 (G : GT) (n0 : Nat) (A : Nat → Prop) (al : Bool) (z w : Nat) : fxe (tw_G G n0 A al) (tw_s0 z w) (.inl (0, 75, 60, 2)) = ea_l G.2.1 2 60 := rfl
theorem tw_a44 (G : GT) (n0 : Nat) (A : Nat → Prop) (al : Bool) : (tw_G G n0 A al).2.2.1 44 = n0 + 44 := rfl
theorem tw_l44 (ks : Nat → ClassId) (n0 : Nat) : (tw_L ks n0)[44]? = some (ea_l ks 2 60) := rfl
theorem tw_x44 {G : GT} {σ : ST} {n0 w z : Nat} {H : Heap} {A : Nat → Prop} {al : Bool} (h : Pic [] G (fil σ n0 (tw_L G.2.1 n0) w) H) (hA : ∀ q, n0 ≤ q → q < n0 + 45 → A q) : va_at (tw_G G n0 A al).1 lk_cl ((tw_G G n0 A al).2.2.1 44, fxe (tw_G G n0 A al) (tw_s0 z w) (.inl (0, 75, 60, 2))) H ∧ (tw_G G n0 A al).2.2.2.1 ((tw_G G n0 A al).2.2.1 44) := by
  rw [tw_e44, tw_a44]
  exact ⟨(h.2.2.1 (n0 + 44) _ (fil_g 44 rfl (tw_l44 G.2.1 n0))).1, hA (n0 + 44) (Nat.le_add_right _ _) (Nat.add_lt_add_left (by decide) _)⟩
set_option maxHeartbeats 4000000 in
theorem tw_pic0 {G : GT} {σ : ST} {n0 w : Nat} {H : Heap} {A : Nat → Prop} {al : Bool} (hal : G.2.2.2.2 = true) (h : Pic [] G (fil σ n0 (tw_L G.2.1 n0) w) H) (hA : ∀ q, n0 ≤ q → q < n0 + 45 → A q) (hA2 : al = true → ∀ q, n0 + 45 ≤ q → A q) : Pic tw_ft (tw_G G n0 A al) (tw_s0 (n0 + 45) w) H := by
  have hl : tw_ft.length = 45 := rfl
  refine ⟨fun j c hj => ?_, fun i j hi hj e => ?_, fun a e ha => (by cases ha), fun hz => ?_⟩
  · have hjl : j < 45 := by rw [← hl]; exact lt_of_some hj
    by_cases c0 : j = 0
    · subst c0
      obtain rfl := Option.some.inj ((rfl : tw_ft[0]? = some (.inr (0, 3, tw_fl))).symm.trans hj)
      exact tw_x0 h hA
    by_cases c1 : j = 1
    · subst c1
      obtain rfl := Option.some.inj ((rfl : tw_ft[1]? = some (.inl (0, 0, 42, 0))).symm.trans hj)
      exact tw_x1 h hA
    by_cases c2 : j = 2
    · subst c2
      obtain rfl := Option.some.inj ((rfl : tw_ft[2]? = some (.inl (0, 1, 40, 0))).symm.trans hj)
      exact tw_x2 h hA
    by_cases c3 : j = 3
    · subst c3
      obtain rfl := Option.some.inj ((rfl : tw_ft[3]? = some (.inl (0, 2, 40, 0))).symm.trans hj)
      exact tw_x3 h hA
    by_cases c4 : j = 4
    · subst c4
      obtain rfl := Option.some.inj ((rfl : tw_ft[4]? = some (.inl (0, 3, 40, 0))).symm.trans hj)
      exact tw_x4 h hA
    by_cases c5 : j = 5
    · subst c5
      obtain rfl := Option.some.inj ((rfl : tw_ft[5]? = some (.inl (0, 7, 10, 0))).symm.trans hj)
      exact tw_x5 h hA
    by_cases c6 : j = 6
    · subst c6
      obtain rfl := Option.some.inj ((rfl : tw_ft[6]? = some (.inl (0, 10, 20, 0))).symm.trans hj)
      exact tw_x6 h hA
    by_cases c7 : j = 7
    · subst c7
      obtain rfl := Option.some.inj ((rfl : tw_ft[7]? = some (.inl (0, 11, 20, 0))).symm.trans hj)
      exact tw_x7 h hA
    by_cases c8 : j = 8
    · subst c8
      obtain rfl := Option.some.inj ((rfl : tw_ft[8]? = some (.inl (0, 12, 20, 0))).symm.trans hj)
      exact tw_x8 h hA
    by_cases c9 : j = 9
    · subst c9
      obtain rfl := Option.some.inj ((rfl : tw_ft[9]? = some (.inl (0, 16, 120, 0))).symm.trans hj)
      exact tw_x9 h hA
    by_cases c10 : j = 10
    · subst c10
      obtain rfl := Option.some.inj ((rfl : tw_ft[10]? = some (.inl (0, 18, 120, 0))).symm.trans hj)
      exact tw_x10 h hA
    by_cases c11 : j = 11
    · subst c11
      obtain rfl := Option.some.inj ((rfl : tw_ft[11]? = some (.inl (0, 25, 8, 0))).symm.trans hj)
      exact tw_x11 h hA
    by_cases c12 : j = 12
    · subst c12
      obtain rfl := Option.some.inj ((rfl : tw_ft[12]? = some (.inl (0, 32, 10, 0))).symm.trans hj)
      exact tw_x12 h hA
    by_cases c13 : j = 13
    · subst c13
      obtain rfl := Option.some.inj ((rfl : tw_ft[13]? = some (.inl (0, 33, 10, 0))).symm.trans hj)
      exact tw_x13 h hA
    by_cases c14 : j = 14
    · subst c14
      obtain rfl := Option.some.inj ((rfl : tw_ft[14]? = some (.inl (0, 34, 10, 0))).symm.trans hj)
      exact tw_x14 h hA
    by_cases c15 : j = 15
    · subst c15
      obtain rfl := Option.some.inj ((rfl : tw_ft[15]? = some (.inl (0, 35, 20, 0))).symm.trans hj)
      exact tw_x15 h hA
    by_cases c16 : j = 16
    · subst c16
      obtain rfl := Option.some.inj ((rfl : tw_ft[16]? = some (.inl (0, 36, 20, 0))).symm.trans hj)
      exact tw_x16 h hA
    by_cases c17 : j = 17
    · subst c17
      obtain rfl := Option.some.inj ((rfl : tw_ft[17]? = some (.inl (0, 37, 6, 0))).symm.trans hj)
      exact tw_x17 h hA
    by_cases c18 : j = 18
    · subst c18
      obtain rfl := Option.some.inj ((rfl : tw_ft[18]? = some (.inl (0, 38, 6, 0))).symm.trans hj)
      exact tw_x18 h hA
    by_cases c19 : j = 19
    · subst c19
      obtain rfl := Option.some.inj ((rfl : tw_ft[19]? = some (.inl (0, 39, 200, 0))).symm.trans hj)
      exact tw_x19 h hA
    by_cases c20 : j = 20
    · subst c20
      obtain rfl := Option.some.inj ((rfl : tw_ft[20]? = some (.inl (0, 40, 200, 0))).symm.trans hj)
      exact tw_x20 h hA
    by_cases c21 : j = 21
    · subst c21
      obtain rfl := Option.some.inj ((rfl : tw_ft[21]? = some (.inl (0, 41, 200, 0))).symm.trans hj)
      exact tw_x21 h hA
    by_cases c22 : j = 22
    · subst c22
      obtain rfl := Option.some.inj ((rfl : tw_ft[22]? = some (.inl (0, 42, 200, 0))).symm.trans hj)
      exact tw_x22 h hA
    by_cases c23 : j = 23
    · subst c23
      obtain rfl := Option.some.inj ((rfl : tw_ft[23]? = some (.inl (0, 43, 200, 0))).symm.trans hj)
      exact tw_x23 h hA
    by_cases c24 : j = 24
    · subst c24
      obtain rfl := Option.some.inj ((rfl : tw_ft[24]? = some (.inl (0, 44, 200, 0))).symm.trans hj)
      exact tw_x24 h hA
    by_cases c25 : j = 25
    · subst c25
      obtain rfl := Option.some.inj ((rfl : tw_ft[25]? = some (.inl (0, 45, 200, 0))).symm.trans hj)
      exact tw_x25 h hA
    by_cases c26 : j = 26
    · subst c26
      obtain rfl := Option.some.inj ((rfl : tw_ft[26]? = some (.inl (0, 50, 10, 0))).symm.trans hj)
      exact tw_x26 h hA
    by_cases c27 : j = 27
    · subst c27
      obtain rfl := Option.some.inj ((rfl : tw_ft[27]? = some (.inl (0, 51, 200, 0))).symm.trans hj)
      exact tw_x27 h hA
    by_cases c28 : j = 28
    · subst c28
      obtain rfl := Option.some.inj ((rfl : tw_ft[28]? = some (.inl (0, 52, 200, 0))).symm.trans hj)
      exact tw_x28 h hA
    by_cases c29 : j = 29
    · subst c29
      obtain rfl := Option.some.inj ((rfl : tw_ft[29]? = some (.inl (0, 53, 200, 0))).symm.trans hj)
      exact tw_x29 h hA
    by_cases c30 : j = 30
    · subst c30
      obtain rfl := Option.some.inj ((rfl : tw_ft[30]? = some (.inl (0, 54, 200, 0))).symm.trans hj)
      exact tw_x30 h hA
    by_cases c31 : j = 31
    · subst c31
      obtain rfl := Option.some.inj ((rfl : tw_ft[31]? = some (.inl (0, 55, 200, 0))).symm.trans hj)
      exact tw_x31 h hA
    by_cases c32 : j = 32
    · subst c32
      obtain rfl := Option.some.inj ((rfl : tw_ft[32]? = some (.inl (0, 56, 200, 0))).symm.trans hj)
      exact tw_x32 h hA
    by_cases c33 : j = 33
    · subst c33
      obtain rfl := Option.some.inj ((rfl : tw_ft[33]? = some (.inl (0, 57, 200, 0))).symm.trans hj)
      exact tw_x33 h hA
    by_cases c34 : j = 34
    · subst c34
      obtain rfl := Option.some.inj ((rfl : tw_ft[34]? = some (.inl (0, 58, 6, 0))).symm.trans hj)
      exact tw_x34 h hA
    by_cases c35 : j = 35
    · subst c35
      obtain rfl := Option.some.inj ((rfl : tw_ft[35]? = some (.inl (0, 59, 6, 0))).symm.trans hj)
      exact tw_x35 h hA
    by_cases c36 : j = 36
    · subst c36
      obtain rfl := Option.some.inj ((rfl : tw_ft[36]? = some (.inl (0, 60, 20, 0))).symm.trans hj)
      exact tw_x36 h hA
    by_cases c37 : j = 37
    · subst c37
      obtain rfl := Option.some.inj ((rfl : tw_ft[37]? = some (.inl (0, 61, 20, 0))).symm.trans hj)
      exact tw_x37 h hA
    by_cases c38 : j = 38
    · subst c38
      obtain rfl := Option.some.inj ((rfl : tw_ft[38]? = some (.inl (0, 62, 10, 0))).symm.trans hj)
      exact tw_x38 h hA
    by_cases c39 : j = 39
    · subst c39
      obtain rfl := Option.some.inj ((rfl : tw_ft[39]? = some (.inl (0, 67, 50, 0))).symm.trans hj)
      exact tw_x39 h hA
    by_cases c40 : j = 40
    · subst c40
      obtain rfl := Option.some.inj ((rfl : tw_ft[40]? = some (.inl (0, 68, 24, 0))).symm.trans hj)
      exact tw_x40 h hA
    by_cases c41 : j = 41
    · subst c41
      obtain rfl := Option.some.inj ((rfl : tw_ft[41]? = some (.inl (0, 72, 6, 0))).symm.trans hj)
      exact tw_x41 h hA
    by_cases c42 : j = 42
    · subst c42
      obtain rfl := Option.some.inj ((rfl : tw_ft[42]? = some (.inl (0, 73, 6, 0))).symm.trans hj)
      exact tw_x42 h hA
    by_cases c43 : j = 43
    · subst c43
      obtain rfl := Option.some.inj ((rfl : tw_ft[43]? = some (.inl (0, 74, 360, 2))).symm.trans hj)
      exact tw_x43 h hA
    by_cases c44 : j = 44
    · subst c44
      obtain rfl := Option.some.inj ((rfl : tw_ft[44]? = some (.inl (0, 75, 60, 2))).symm.trans hj)
      exact tw_x44 h hA
    exact absurd hjl (by omega)
  · rw [hl] at hi hj
    refine tw_posi i hi j hj ?_
    have e1 : (if i < 45 then n0 + tw_pos.getD i 0 else G.2.2.1 i) = (if j < 45 then n0 + tw_pos.getD j 0 else G.2.2.1 j) := e
    rw [if_pos hi, if_pos hj] at e1
    exact Nat.add_left_cancel e1
  · obtain ⟨k1, k2, -⟩ := h.2.2.2 hal
    exact ⟨k1, k2, hA2 hz⟩
