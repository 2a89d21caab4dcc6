set_option maxRecDepth 100000
def cp_pos : List Nat := [0, 1, 2, 3, 4, 5, 8, 43, 44, 45, 46, 47, 48, 6, 7, 9, 10, 11, 12, 13, 14, 15, 16, 17, 18, 19, 20, 21, 22, 23, 24, 25, 26, 27, 28, 29, 30, 31, 32, 33, 34, 35, 36, 37, 38, 39, 40, 41, 42]
theorem cp_posi : ∀ i, i < 49 → ∀ j, j < 49 → cp_pos.getD i 0 = cp_pos.getD j 0 → i = j := by decide +kernel
def cp_G (G : GT) (n0 : Nat) (A : Nat → Prop) : GT := (G.1, G.2.1, (fun j => if j < 49 then n0 + cp_pos.getD j 0 else G.2.2.1 j), A, true)
def cp_s0 (z w : Nat) : ST := ((fun o k => if o = 0 ∧ k = 0 then (fun i => if i = 8 then 3 else 0) else fun _ => 0), fun _ _ _ => 0, fun _ _ _ => none, fun _ => none, z, w)
set_option maxHeartbeats 4000000 in
theorem cp_pic0 {G : GT} {σ : ST} {n0 w : Nat} {H : Heap} {A : Nat → Prop} (hal : G.2.2.2.2 = true) (h : Pic [] G (fil σ n0 (cp_L G.2.1 n0) w) H) (hA : ∀ q, n0 ≤ q → q < n0 + 49 → A q) (hA2 : ∀ q, n0 + 49 ≤ q → A q) : Pic cp_ft (cp_G G n0 A) (cp_s0 (n0 + 49) w) H := by
  have hl : cp_ft.length = 49 := rfl
  refine ⟨fun j c hj => ?_, fun i j hi hj e => ?_, fun a e ha => by cases ha, fun hz => ?_⟩
  · have hjl : j < 49 := lt_of_some hj
    match j, hjl, hj with
    | 0, _, hj =>
      obtain rfl := Option.some.inj ((rfl : cp_ft[0]? = some (.inr (0, 0, cp_fl))).symm.trans hj)
      exact ⟨(h.2.2.1 (n0 + 0) _ (fil_g 0 rfl rfl)).1, hA (n0 + 0) (Nat.le_add_right _ _) (Nat.add_lt_add_left (by decide) _)⟩
    | 1, _, hj =>
      obtain rfl := Option.some.inj ((rfl : cp_ft[1]? = some (.inl (0, 0, 10, 3))).symm.trans hj)
      exact ⟨(h.2.2.1 (n0 + 1) _ (fil_g 1 rfl rfl)).1, hA (n0 + 1) (Nat.le_add_right _ _) (Nat.add_lt_add_left (by decide) _)⟩
    | 2, _, hj =>
      obtain rfl := Option.some.inj ((rfl : cp_ft[2]? = some (.inl (0, 1, 6, 4))).symm.trans hj)
      exact ⟨(h.2.2.1 (n0 + 2) _ (fil_g 2 rfl rfl)).1, hA (n0 + 2) (Nat.le_add_right _ _) (Nat.add_lt_add_left (by decide) _)⟩
    | 3, _, hj =>
      obtain rfl := Option.some.inj ((rfl : cp_ft[3]? = some (.inl (0, 2, 20, 5))).symm.trans hj)
      exact ⟨(h.2.2.1 (n0 + 3) _ (fil_g 3 rfl rfl)).1, hA (n0 + 3) (Nat.le_add_right _ _) (Nat.add_lt_add_left (by decide) _)⟩
    | 4, _, hj =>
      obtain rfl := Option.some.inj ((rfl : cp_ft[4]? = some (.inl (0, 9, 40, 6))).symm.trans hj)
      exact ⟨(h.2.2.1 (n0 + 4) _ (fil_g 4 rfl rfl)).1, hA (n0 + 4) (Nat.le_add_right _ _) (Nat.add_lt_add_left (by decide) _)⟩
    | 5, _, hj =>
      obtain rfl := Option.some.inj ((rfl : cp_ft[5]? = some (.inl (0, 12, 120, 1))).symm.trans hj)
      exact ⟨(h.2.2.1 (n0 + 5) _ (fil_g 5 rfl rfl)).1, hA (n0 + 5) (Nat.le_add_right _ _) (Nat.add_lt_add_left (by decide) _)⟩
    | 6, _, hj =>
      obtain rfl := Option.some.inj ((rfl : cp_ft[6]? = some (.inl (0, 16, 6, 0))).symm.trans hj)
      exact ⟨(h.2.2.1 (n0 + 8) _ (fil_g 8 rfl rfl)).1, hA (n0 + 8) (Nat.le_add_right _ _) (Nat.add_lt_add_left (by decide) _)⟩
    | 7, _, hj =>
      obtain rfl := Option.some.inj ((rfl : cp_ft[7]? = some (.inl (0, 19, 10, 0))).symm.trans hj)
      exact ⟨(h.2.2.1 (n0 + 43) _ (fil_g 43 rfl rfl)).1, hA (n0 + 43) (Nat.le_add_right _ _) (Nat.add_lt_add_left (by decide) _)⟩
    | 8, _, hj =>
      obtain rfl := Option.some.inj ((rfl : cp_ft[8]? = some (.inl (0, 20, 6, 0))).symm.trans hj)
      exact ⟨(h.2.2.1 (n0 + 44) _ (fil_g 44 rfl rfl)).1, hA (n0 + 44) (Nat.le_add_right _ _) (Nat.add_lt_add_left (by decide) _)⟩
    | 9, _, hj =>
      obtain rfl := Option.some.inj ((rfl : cp_ft[9]? = some (.inl (0, 21, 10, 0))).symm.trans hj)
      exact ⟨(h.2.2.1 (n0 + 45) _ (fil_g 45 rfl rfl)).1, hA (n0 + 45) (Nat.le_add_right _ _) (Nat.add_lt_add_left (by decide) _)⟩
    | 10, _, hj =>
      obtain rfl := Option.some.inj ((rfl : cp_ft[10]? = some (.inl (0, 30, 24, 1))).symm.trans hj)
      exact ⟨(h.2.2.1 (n0 + 46) _ (fil_g 46 rfl rfl)).1, hA (n0 + 46) (Nat.le_add_right _ _) (Nat.add_lt_add_left (by decide) _)⟩
    | 11, _, hj =>
      obtain rfl := Option.some.inj ((rfl : cp_ft[11]? = some (.inl (0, 31, 50, 7))).symm.trans hj)
      exact ⟨(h.2.2.1 (n0 + 47) _ (fil_g 47 rfl rfl)).1, hA (n0 + 47) (Nat.le_add_right _ _) (Nat.add_lt_add_left (by decide) _)⟩
    | 12, _, hj =>
      obtain rfl := Option.some.inj ((rfl : cp_ft[12]? = some (.inl (0, 33, 6, 8))).symm.trans hj)
      exact ⟨(h.2.2.1 (n0 + 48) _ (fil_g 48 rfl rfl)).1, hA (n0 + 48) (Nat.le_add_right _ _) (Nat.add_lt_add_left (by decide) _)⟩
    | 13, _, hj =>
      obtain rfl := Option.some.inj ((rfl : cp_ft[13]? = some (.inr (3, 1, fa_fl))).symm.trans hj)
      exact ⟨(h.2.2.1 (n0 + 6) _ (fil_g 6 rfl rfl)).1, hA (n0 + 6) (Nat.le_add_right _ _) (Nat.add_lt_add_left (by decide) _)⟩
    | 14, _, hj =>
      obtain rfl := Option.some.inj ((rfl : cp_ft[14]? = some (.inl (3, 0, 128, 0))).symm.trans hj)
      exact ⟨(h.2.2.1 (n0 + 7) _ (fil_g 7 rfl rfl)).1, hA (n0 + 7) (Nat.le_add_right _ _) (Nat.add_lt_add_left (by decide) _)⟩
    | 15, _, hj =>
      obtain rfl := Option.some.inj ((rfl : cp_ft[15]? = some (.inr (1, 2, mg_fl 0))).symm.trans hj)
      exact ⟨(h.2.2.1 (n0 + 9) _ (fil_g 9 rfl rfl)).1, hA (n0 + 9) (Nat.le_add_right _ _) (Nat.add_lt_add_left (by decide) _)⟩
    | 16, _, hj =>
      obtain rfl := Option.some.inj ((rfl : cp_ft[16]? = some (.inl (1, 0, 6, 0))).symm.trans hj)
      exact ⟨(h.2.2.1 (n0 + 10) _ (fil_g 10 rfl rfl)).1, hA (n0 + 10) (Nat.le_add_right _ _) (Nat.add_lt_add_left (by decide) _)⟩
    | 17, _, hj =>
      obtain rfl := Option.some.inj ((rfl : cp_ft[17]? = some (.inl (1, 1, 200, 0))).symm.trans hj)
      exact ⟨(h.2.2.1 (n0 + 11) _ (fil_g 11 rfl rfl)).1, hA (n0 + 11) (Nat.le_add_right _ _) (Nat.add_lt_add_left (by decide) _)⟩
    | 18, _, hj =>
      obtain rfl := Option.some.inj ((rfl : cp_ft[18]? = some (.inl (1, 2, 200, 0))).symm.trans hj)
      exact ⟨(h.2.2.1 (n0 + 12) _ (fil_g 12 rfl rfl)).1, hA (n0 + 12) (Nat.le_add_right _ _) (Nat.add_lt_add_left (by decide) _)⟩
    | 19, _, hj =>
      obtain rfl := Option.some.inj ((rfl : cp_ft[19]? = some (.inl (1, 3, 200, 0))).symm.trans hj)
      exact ⟨(h.2.2.1 (n0 + 13) _ (fil_g 13 rfl rfl)).1, hA (n0 + 13) (Nat.le_add_right _ _) (Nat.add_lt_add_left (by decide) _)⟩
    | 20, _, hj =>
      obtain rfl := Option.some.inj ((rfl : cp_ft[20]? = some (.inl (1, 4, 200, 0))).symm.trans hj)
      exact ⟨(h.2.2.1 (n0 + 14) _ (fil_g 14 rfl rfl)).1, hA (n0 + 14) (Nat.le_add_right _ _) (Nat.add_lt_add_left (by decide) _)⟩
    | 21, _, hj =>
      obtain rfl := Option.some.inj ((rfl : cp_ft[21]? = some (.inl (1, 5, 200, 0))).symm.trans hj)
      exact ⟨(h.2.2.1 (n0 + 15) _ (fil_g 15 rfl rfl)).1, hA (n0 + 15) (Nat.le_add_right _ _) (Nat.add_lt_add_left (by decide) _)⟩
    | 22, _, hj =>
      obtain rfl := Option.some.inj ((rfl : cp_ft[22]? = some (.inl (1, 6, 200, 0))).symm.trans hj)
      exact ⟨(h.2.2.1 (n0 + 16) _ (fil_g 16 rfl rfl)).1, hA (n0 + 16) (Nat.le_add_right _ _) (Nat.add_lt_add_left (by decide) _)⟩
    | 23, _, hj =>
      obtain rfl := Option.some.inj ((rfl : cp_ft[23]? = some (.inl (1, 7, 200, 0))).symm.trans hj)
      exact ⟨(h.2.2.1 (n0 + 17) _ (fil_g 17 rfl rfl)).1, hA (n0 + 17) (Nat.le_add_right _ _) (Nat.add_lt_add_left (by decide) _)⟩
    | 24, _, hj =>
      obtain rfl := Option.some.inj ((rfl : cp_ft[24]? = some (.inl (1, 8, 20, 0))).symm.trans hj)
      exact ⟨(h.2.2.1 (n0 + 18) _ (fil_g 18 rfl rfl)).1, hA (n0 + 18) (Nat.le_add_right _ _) (Nat.add_lt_add_left (by decide) _)⟩
    | 25, _, hj =>
      obtain rfl := Option.some.inj ((rfl : cp_ft[25]? = some (.inl (1, 9, 20, 0))).symm.trans hj)
      exact ⟨(h.2.2.1 (n0 + 19) _ (fil_g 19 rfl rfl)).1, hA (n0 + 19) (Nat.le_add_right _ _) (Nat.add_lt_add_left (by decide) _)⟩
    | 26, _, hj =>
      obtain rfl := Option.some.inj ((rfl : cp_ft[26]? = some (.inl (1, 10, 10, 0))).symm.trans hj)
      exact ⟨(h.2.2.1 (n0 + 20) _ (fil_g 20 rfl rfl)).1, hA (n0 + 20) (Nat.le_add_right _ _) (Nat.add_lt_add_left (by decide) _)⟩
    | 27, _, hj =>
      obtain rfl := Option.some.inj ((rfl : cp_ft[27]? = some (.inl (1, 11, 10, 0))).symm.trans hj)
      exact ⟨(h.2.2.1 (n0 + 21) _ (fil_g 21 rfl rfl)).1, hA (n0 + 21) (Nat.le_add_right _ _) (Nat.add_lt_add_left (by decide) _)⟩
    | 28, _, hj =>
      obtain rfl := Option.some.inj ((rfl : cp_ft[28]? = some (.inl (1, 12, 10, 0))).symm.trans hj)
      exact ⟨(h.2.2.1 (n0 + 22) _ (fil_g 22 rfl rfl)).1, hA (n0 + 22) (Nat.le_add_right _ _) (Nat.add_lt_add_left (by decide) _)⟩
    | 29, _, hj =>
      obtain rfl := Option.some.inj ((rfl : cp_ft[29]? = some (.inl (1, 13, 10, 0))).symm.trans hj)
      exact ⟨(h.2.2.1 (n0 + 23) _ (fil_g 23 rfl rfl)).1, hA (n0 + 23) (Nat.le_add_right _ _) (Nat.add_lt_add_left (by decide) _)⟩
    | 30, _, hj =>
      obtain rfl := Option.some.inj ((rfl : cp_ft[30]? = some (.inl (1, 14, 10, 0))).symm.trans hj)
      exact ⟨(h.2.2.1 (n0 + 24) _ (fil_g 24 rfl rfl)).1, hA (n0 + 24) (Nat.le_add_right _ _) (Nat.add_lt_add_left (by decide) _)⟩
    | 31, _, hj =>
      obtain rfl := Option.some.inj ((rfl : cp_ft[31]? = some (.inl (1, 15, 10, 0))).symm.trans hj)
      exact ⟨(h.2.2.1 (n0 + 25) _ (fil_g 25 rfl rfl)).1, hA (n0 + 25) (Nat.le_add_right _ _) (Nat.add_lt_add_left (by decide) _)⟩
    | 32, _, hj =>
      obtain rfl := Option.some.inj ((rfl : cp_ft[32]? = some (.inr (2, 2, mg_fl 1))).symm.trans hj)
      exact ⟨(h.2.2.1 (n0 + 26) _ (fil_g 26 rfl rfl)).1, hA (n0 + 26) (Nat.le_add_right _ _) (Nat.add_lt_add_left (by decide) _)⟩
    | 33, _, hj =>
      obtain rfl := Option.some.inj ((rfl : cp_ft[33]? = some (.inl (2, 0, 6, 0))).symm.trans hj)
      exact ⟨(h.2.2.1 (n0 + 27) _ (fil_g 27 rfl rfl)).1, hA (n0 + 27) (Nat.le_add_right _ _) (Nat.add_lt_add_left (by decide) _)⟩
    | 34, _, hj =>
      obtain rfl := Option.some.inj ((rfl : cp_ft[34]? = some (.inl (2, 1, 200, 0))).symm.trans hj)
      exact ⟨(h.2.2.1 (n0 + 28) _ (fil_g 28 rfl rfl)).1, hA (n0 + 28) (Nat.le_add_right _ _) (Nat.add_lt_add_left (by decide) _)⟩
    | 35, _, hj =>
      obtain rfl := Option.some.inj ((rfl : cp_ft[35]? = some (.inl (2, 2, 200, 0))).symm.trans hj)
      exact ⟨(h.2.2.1 (n0 + 29) _ (fil_g 29 rfl rfl)).1, hA (n0 + 29) (Nat.le_add_right _ _) (Nat.add_lt_add_left (by decide) _)⟩
    | 36, _, hj =>
      obtain rfl := Option.some.inj ((rfl : cp_ft[36]? = some (.inl (2, 3, 200, 0))).symm.trans hj)
      exact ⟨(h.2.2.1 (n0 + 30) _ (fil_g 30 rfl rfl)).1, hA (n0 + 30) (Nat.le_add_right _ _) (Nat.add_lt_add_left (by decide) _)⟩
    | 37, _, hj =>
      obtain rfl := Option.some.inj ((rfl : cp_ft[37]? = some (.inl (2, 4, 200, 0))).symm.trans hj)
      exact ⟨(h.2.2.1 (n0 + 31) _ (fil_g 31 rfl rfl)).1, hA (n0 + 31) (Nat.le_add_right _ _) (Nat.add_lt_add_left (by decide) _)⟩
    | 38, _, hj =>
      obtain rfl := Option.some.inj ((rfl : cp_ft[38]? = some (.inl (2, 5, 200, 0))).symm.trans hj)
      exact ⟨(h.2.2.1 (n0 + 32) _ (fil_g 32 rfl rfl)).1, hA (n0 + 32) (Nat.le_add_right _ _) (Nat.add_lt_add_left (by decide) _)⟩
    | 39, _, hj =>
      obtain rfl := Option.some.inj ((rfl : cp_ft[39]? = some (.inl (2, 6, 200, 0))).symm.trans hj)
      exact ⟨(h.2.2.1 (n0 + 33) _ (fil_g 33 rfl rfl)).1, hA (n0 + 33) (Nat.le_add_right _ _) (Nat.add_lt_add_left (by decide) _)⟩
    | 40, _, hj =>
      obtain rfl := Option.some.inj ((rfl : cp_ft[40]? = some (.inl (2, 7, 200, 0))).symm.trans hj)
      exact ⟨(h.2.2.1 (n0 + 34) _ (fil_g 34 rfl rfl)).1, hA (n0 + 34) (Nat.le_add_right _ _) (Nat.add_lt_add_left (by decide) _)⟩
    | 41, _, hj =>
      obtain rfl := Option.some.inj ((rfl : cp_ft[41]? = some (.inl (2, 8, 20, 0))).symm.trans hj)
      exact ⟨(h.2.2.1 (n0 + 35) _ (fil_g 35 rfl rfl)).1, hA (n0 + 35) (Nat.le_add_right _ _) (Nat.add_lt_add_left (by decide) _)⟩
    | 42, _, hj =>
      obtain rfl := Option.some.inj ((rfl : cp_ft[42]? = some (.inl (2, 9, 20, 0))).symm.trans hj)
      exact ⟨(h.2.2.1 (n0 + 36) _ (fil_g 36 rfl rfl)).1, hA (n0 + 36) (Nat.le_add_right _ _) (Nat.add_lt_add_left (by decide) _)⟩
    | 43, _, hj =>
      obtain rfl := Option.some.inj ((rfl : cp_ft[43]? = some (.inl (2, 10, 10, 0))).symm.trans hj)
      exact ⟨(h.2.2.1 (n0 + 37) _ (fil_g 37 rfl rfl)).1, hA (n0 + 37) (Nat.le_add_right _ _) (Nat.add_lt_add_left (by decide) _)⟩
    | 44, _, hj =>
      obtain rfl := Option.some.inj ((rfl : cp_ft[44]? = some (.inl (2, 11, 10, 0))).symm.trans hj)
      exact ⟨(h.2.2.1 (n0 + 38) _ (fil_g 38 rfl rfl)).1, hA (n0 + 38) (Nat.le_add_right _ _) (Nat.add_lt_add_left (by decide) _)⟩
    | 45, _, hj =>
      obtain rfl := Option.some.inj ((rfl : cp_ft[45]? = some (.inl (2, 12, 10, 0))).symm.trans hj)
      exact ⟨(h.2.2.1 (n0 + 39) _ (fil_g 39 rfl rfl)).1, hA (n0 + 39) (Nat.le_add_right _ _) (Nat.add_lt_add_left (by decide) _)⟩
    | 46, _, hj =>
      obtain rfl := Option.some.inj ((rfl : cp_ft[46]? = some (.inl (2, 13, 10, 0))).symm.trans hj)
      exact ⟨(h.2.2.1 (n0 + 40) _ (fil_g 40 rfl rfl)).1, hA (n0 + 40) (Nat.le_add_right _ _) (Nat.add_lt_add_left (by decide) _)⟩
    | 47, _, hj =>
      obtain rfl := Option.some.inj ((rfl : cp_ft[47]? = some (.inl (2, 14, 10, 0))).symm.trans hj)
      exact ⟨(h.2.2.1 (n0 + 41) _ (fil_g 41 rfl rfl)).1, hA (n0 + 41) (Nat.le_add_right _ _) (Nat.add_lt_add_left (by decide) _)⟩
    | 48, _, hj =>
      obtain rfl := Option.some.inj ((rfl : cp_ft[48]? = some (.inl (2, 15, 10, 0))).symm.trans hj)
      exact ⟨(h.2.2.1 (n0 + 42) _ (fil_g 42 rfl rfl)).1, hA (n0 + 42) (Nat.le_add_right _ _) (Nat.add_lt_add_left (by decide) _)⟩
    | j + 49, hjl, _ => exact absurd hjl (by omega)
  · rw [hl] at hi hj
    refine cp_posi i hi j hj ?_
    have e1 : (if i < 49 then n0 + cp_pos.getD i 0 else G.2.2.1 i) = (if j < 49 then n0 + cp_pos.getD j 0 else G.2.2.1 j) := e
    rw [if_pos hi, if_pos hj] at e1
    exact Nat.add_left_cancel e1
  · obtain ⟨k1, k2, -⟩ := h.2.2.2 hal
    exact ⟨k1, k2, hA2⟩
def tw_pos : List Nat := [0, 1, 2, 3, 4, 5, 6, 7, 8, 9, 10, 11, 12, 13, 14, 15, 16, 17, 18, 19, 20, 21, 22, 23, 24, 25, 26, 27, 28, 29, 30, 31, 32, 33, 34, 35, 36, 37, 38, 39, 40, 41, 42, 43, 44]
theorem tw_posi : ∀ i, i < 45 → ∀ j, j < 45 → tw_pos.getD i 0 = tw_pos.getD j 0 → i = j := by decide +kernel
def tw_G (G : GT) (n0 : Nat) (A : Nat → Prop) : GT := (G.1, G.2.1, (fun j => if j < 45 then n0 + tw_pos.getD j 0 else G.2.2.1 j), A, false)
def tw_s0 (z w : Nat) : ST := ((fun o k => if o = 0 ∧ k = 0 then (fun i => if i = 19 then -1 else if i = 15 then 3 else if i = 46 then -1 else 0) else if o = 0 ∧ k = 73 then (upd (upd (upd (upd (upd (upd (fun _ => 0) 0 (-1)) 1 (-1)) 2 (-1)) 3 (-1)) 4 (-1)) 5 (-1)) else fun _ => 0), fun _ _ _ => 0, fun _ _ _ => none, fun _ => none, z, w)
set_option maxHeartbeats 4000000 in
theorem tw_pic0 {G : GT} {σ : ST} {n0 w : Nat} {H : Heap} {A : Nat → Prop} (hal : G.2.2.2.2 = true) (h : Pic [] G (fil σ n0 (tw_L G.2.1 n0) w) H) (hA : ∀ q, n0 ≤ q → q < n0 + 45 → A q) (hA2 : ∀ q, n0 + 45 ≤ q → True ∨ A q) : Pic tw_ft (tw_G G n0 A) (tw_s0 (n0 + 45) w) H := by
  have hl : tw_ft.length = 45 := rfl
  refine ⟨fun j c hj => ?_, fun i j hi hj e => ?_, fun a e ha => by cases ha, fun hz => ?_⟩
  · have hjl : j < 45 := lt_of_some hj
    match j, hjl, hj with
    | 0, _, hj =>
      obtain rfl := Option.some.inj ((rfl : tw_ft[0]? = some (.inr (0, 3, tw_fl))).symm.trans hj)
      exact ⟨(h.2.2.1 (n0 + 0) _ (fil_g 0 rfl rfl)).1, hA (n0 + 0) (Nat.le_add_right _ _) (Nat.add_lt_add_left (by decide) _)⟩
    | 1, _, hj =>
      obtain rfl := Option.some.inj ((rfl : tw_ft[1]? = some (.inl (0, 0, 42, 0))).symm.trans hj)
      exact ⟨(h.2.2.1 (n0 + 1) _ (fil_g 1 rfl rfl)).1, hA (n0 + 1) (Nat.le_add_right _ _) (Nat.add_lt_add_left (by decide) _)⟩
    | 2, _, hj =>
      obtain rfl := Option.some.inj ((rfl : tw_ft[2]? = some (.inl (0, 1, 40, 0))).symm.trans hj)
      exact ⟨(h.2.2.1 (n0 + 2) _ (fil_g 2 rfl rfl)).1, hA (n0 + 2) (Nat.le_add_right _ _) (Nat.add_lt_add_left (by decide) _)⟩
    | 3, _, hj =>
      obtain rfl := Option.some.inj ((rfl : tw_ft[3]? = some (.inl (0, 2, 40, 0))).symm.trans hj)
      exact ⟨(h.2.2.1 (n0 + 3) _ (fil_g 3 rfl rfl)).1, hA (n0 + 3) (Nat.le_add_right _ _) (Nat.add_lt_add_left (by decide) _)⟩
    | 4, _, hj =>
      obtain rfl := Option.some.inj ((rfl : tw_ft[4]? = some (.inl (0, 3, 40, 0))).symm.trans hj)
      exact ⟨(h.2.2.1 (n0 + 4) _ (fil_g 4 rfl rfl)).1, hA (n0 + 4) (Nat.le_add_right _ _) (Nat.add_lt_add_left (by decide) _)⟩
    | 5, _, hj =>
      obtain rfl := Option.some.inj ((rfl : tw_ft[5]? = some (.inl (0, 7, 10, 0))).symm.trans hj)
      exact ⟨(h.2.2.1 (n0 + 5) _ (fil_g 5 rfl rfl)).1, hA (n0 + 5) (Nat.le_add_right _ _) (Nat.add_lt_add_left (by decide) _)⟩
    | 6, _, hj =>
      obtain rfl := Option.some.inj ((rfl : tw_ft[6]? = some (.inl (0, 10, 20, 0))).symm.trans hj)
      exact ⟨(h.2.2.1 (n0 + 6) _ (fil_g 6 rfl rfl)).1, hA (n0 + 6) (Nat.le_add_right _ _) (Nat.add_lt_add_left (by decide) _)⟩
    | 7, _, hj =>
      obtain rfl := Option.some.inj ((rfl : tw_ft[7]? = some (.inl (0, 11, 20, 0))).symm.trans hj)
      exact ⟨(h.2.2.1 (n0 + 7) _ (fil_g 7 rfl rfl)).1, hA (n0 + 7) (Nat.le_add_right _ _) (Nat.add_lt_add_left (by decide) _)⟩
    | 8, _, hj =>
      obtain rfl := Option.some.inj ((rfl : tw_ft[8]? = some (.inl (0, 12, 20, 0))).symm.trans hj)
      exact ⟨(h.2.2.1 (n0 + 8) _ (fil_g 8 rfl rfl)).1, hA (n0 + 8) (Nat.le_add_right _ _) (Nat.add_lt_add_left (by decide) _)⟩
    | 9, _, hj =>
      obtain rfl := Option.some.inj ((rfl : tw_ft[9]? = some (.inl (0, 16, 120, 0))).symm.trans hj)
      exact ⟨(h.2.2.1 (n0 + 9) _ (fil_g 9 rfl rfl)).1, hA (n0 + 9) (Nat.le_add_right _ _) (Nat.add_lt_add_left (by decide) _)⟩
    | 10, _, hj =>
      obtain rfl := Option.some.inj ((rfl : tw_ft[10]? = some (.inl (0, 18, 120, 0))).symm.trans hj)
      exact ⟨(h.2.2.1 (n0 + 10) _ (fil_g 10 rfl rfl)).1, hA (n0 + 10) (Nat.le_add_right _ _) (Nat.add_lt_add_left (by decide) _)⟩
    | 11, _, hj =>
      obtain rfl := Option.some.inj ((rfl : tw_ft[11]? = some (.inl (0, 25, 8, 0))).symm.trans hj)
      exact ⟨(h.2.2.1 (n0 + 11) _ (fil_g 11 rfl rfl)).1, hA (n0 + 11) (Nat.le_add_right _ _) (Nat.add_lt_add_left (by decide) _)⟩
    | 12, _, hj =>
      obtain rfl := Option.some.inj ((rfl : tw_ft[12]? = some (.inl (0, 32, 10, 0))).symm.trans hj)
      exact ⟨(h.2.2.1 (n0 + 12) _ (fil_g 12 rfl rfl)).1, hA (n0 + 12) (Nat.le_add_right _ _) (Nat.add_lt_add_left (by decide) _)⟩
    | 13, _, hj =>
      obtain rfl := Option.some.inj ((rfl : tw_ft[13]? = some (.inl (0, 33, 10, 0))).symm.trans hj)
      exact ⟨(h.2.2.1 (n0 + 13) _ (fil_g 13 rfl rfl)).1, hA (n0 + 13) (Nat.le_add_right _ _) (Nat.add_lt_add_left (by decide) _)⟩
    | 14, _, hj =>
      obtain rfl := Option.some.inj ((rfl : tw_ft[14]? = some (.inl (0, 34, 10, 0))).symm.trans hj)
      exact ⟨(h.2.2.1 (n0 + 14) _ (fil_g 14 rfl rfl)).1, hA (n0 + 14) (Nat.le_add_right _ _) (Nat.add_lt_add_left (by decide) _)⟩
    | 15, _, hj =>
      obtain rfl := Option.some.inj ((rfl : tw_ft[15]? = some (.inl (0, 35, 20, 0))).symm.trans hj)
      exact ⟨(h.2.2.1 (n0 + 15) _ (fil_g 15 rfl rfl)).1, hA (n0 + 15) (Nat.le_add_right _ _) (Nat.add_lt_add_left (by decide) _)⟩
    | 16, _, hj =>
      obtain rfl := Option.some.inj ((rfl : tw_ft[16]? = some (.inl (0, 36, 20, 0))).symm.trans hj)
      exact ⟨(h.2.2.1 (n0 + 16) _ (fil_g 16 rfl rfl)).1, hA (n0 + 16) (Nat.le_add_right _ _) (Nat.add_lt_add_left (by decide) _)⟩
    | 17, _, hj =>
      obtain rfl := Option.some.inj ((rfl : tw_ft[17]? = some (.inl (0, 37, 6, 0))).symm.trans hj)
      exact ⟨(h.2.2.1 (n0 + 17) _ (fil_g 17 rfl rfl)).1, hA (n0 + 17) (Nat.le_add_right _ _) (Nat.add_lt_add_left (by decide) _)⟩
    | 18, _, hj =>
      obtain rfl := Option.some.inj ((rfl : tw_ft[18]? = some (.inl (0, 38, 6, 0))).symm.trans hj)
      exact ⟨(h.2.2.1 (n0 + 18) _ (fil_g 18 rfl rfl)).1, hA (n0 + 18) (Nat.le_add_right _ _) (Nat.add_lt_add_left (by decide) _)⟩
    | 19, _, hj =>
      obtain rfl := Option.some.inj ((rfl : tw_ft[19]? = some (.inl (0, 39, 200, 0))).symm.trans hj)
      exact ⟨(h.2.2.1 (n0 + 19) _ (fil_g 19 rfl rfl)).1, hA (n0 + 19) (Nat.le_add_right _ _) (Nat.add_lt_add_left (by decide) _)⟩
    | 20, _, hj =>
      obtain rfl := Option.some.inj ((rfl : tw_ft[20]? = some (.inl (0, 40, 200, 0))).symm.trans hj)
      exact ⟨(h.2.2.1 (n0 + 20) _ (fil_g 20 rfl rfl)).1, hA (n0 + 20) (Nat.le_add_right _ _) (Nat.add_lt_add_left (by decide) _)⟩
    | 21, _, hj =>
      obtain rfl := Option.some.inj ((rfl : tw_ft[21]? = some (.inl (0, 41, 200, 0))).symm.trans hj)
      exact ⟨(h.2.2.1 (n0 + 21) _ (fil_g 21 rfl rfl)).1, hA (n0 + 21) (Nat.le_add_right _ _) (Nat.add_lt_add_left (by decide) _)⟩
    | 22, _, hj =>
      obtain rfl := Option.some.inj ((rfl : tw_ft[22]? = some (.inl (0, 42, 200, 0))).symm.trans hj)
      exact ⟨(h.2.2.1 (n0 + 22) _ (fil_g 22 rfl rfl)).1, hA (n0 + 22) (Nat.le_add_right _ _) (Nat.add_lt_add_left (by decide) _)⟩
    | 23, _, hj =>
      obtain rfl := Option.some.inj ((rfl : tw_ft[23]? = some (.inl (0, 43, 200, 0))).symm.trans hj)
      exact ⟨(h.2.2.1 (n0 + 23) _ (fil_g 23 rfl rfl)).1, hA (n0 + 23) (Nat.le_add_right _ _) (Nat.add_lt_add_left (by decide) _)⟩
    | 24, _, hj =>
      obtain rfl := Option.some.inj ((rfl : tw_ft[24]? = some (.inl (0, 44, 200, 0))).symm.trans hj)
      exact ⟨(h.2.2.1 (n0 + 24) _ (fil_g 24 rfl rfl)).1, hA (n0 + 24) (Nat.le_add_right _ _) (Nat.add_lt_add_left (by decide) _)⟩
    | 25, _, hj =>
      obtain rfl := Option.some.inj ((rfl : tw_ft[25]? = some (.inl (0, 45, 200, 0))).symm.trans hj)
      exact ⟨(h.2.2.1 (n0 + 25) _ (fil_g 25 rfl rfl)).1, hA (n0 + 25) (Nat.le_add_right _ _) (Nat.add_lt_add_left (by decide) _)⟩
    | 26, _, hj =>
      obtain rfl := Option.some.inj ((rfl : tw_ft[26]? = some (.inl (0, 50, 10, 0))).symm.trans hj)
      exact ⟨(h.2.2.1 (n0 + 26) _ (fil_g 26 rfl rfl)).1, hA (n0 + 26) (Nat.le_add_right _ _) (Nat.add_lt_add_left (by decide) _)⟩
    | 27, _, hj =>
      obtain rfl := Option.some.inj ((rfl : tw_ft[27]? = some (.inl (0, 51, 200, 0))).symm.trans hj)
      exact ⟨(h.2.2.1 (n0 + 27) _ (fil_g 27 rfl rfl)).1, hA (n0 + 27) (Nat.le_add_right _ _) (Nat.add_lt_add_left (by decide) _)⟩
    | 28, _, hj =>
      obtain rfl := Option.some.inj ((rfl : tw_ft[28]? = some (.inl (0, 52, 200, 0))).symm.trans hj)
      exact ⟨(h.2.2.1 (n0 + 28) _ (fil_g 28 rfl rfl)).1, hA (n0 + 28) (Nat.le_add_right _ _) (Nat.add_lt_add_left (by decide) _)⟩
    | 29, _, hj =>
      obtain rfl := Option.some.inj ((rfl : tw_ft[29]? = some (.inl (0, 53, 200, 0))).symm.trans hj)
      exact ⟨(h.2.2.1 (n0 + 29) _ (fil_g 29 rfl rfl)).1, hA (n0 + 29) (Nat.le_add_right _ _) (Nat.add_lt_add_left (by decide) _)⟩
    | 30, _, hj =>
      obtain rfl := Option.some.inj ((rfl : tw_ft[30]? = some (.inl (0, 54, 200, 0))).symm.trans hj)
      exact ⟨(h.2.2.1 (n0 + 30) _ (fil_g 30 rfl rfl)).1, hA (n0 + 30) (Nat.le_add_right _ _) (Nat.add_lt_add_left (by decide) _)⟩
    | 31, _, hj =>
      obtain rfl := Option.some.inj ((rfl : tw_ft[31]? = some (.inl (0, 55, 200, 0))).symm.trans hj)
      exact ⟨(h.2.2.1 (n0 + 31) _ (fil_g 31 rfl rfl)).1, hA (n0 + 31) (Nat.le_add_right _ _) (Nat.add_lt_add_left (by decide) _)⟩
    | 32, _, hj =>
      obtain rfl := Option.some.inj ((rfl : tw_ft[32]? = some (.inl (0, 56, 200, 0))).symm.trans hj)
      exact ⟨(h.2.2.1 (n0 + 32) _ (fil_g 32 rfl rfl)).1, hA (n0 + 32) (Nat.le_add_right _ _) (Nat.add_lt_add_left (by decide) _)⟩
    | 33, _, hj =>
      obtain rfl := Option.some.inj ((rfl : tw_ft[33]? = some (.inl (0, 57, 200, 0))).symm.trans hj)
      exact ⟨(h.2.2.1 (n0 + 33) _ (fil_g 33 rfl rfl)).1, hA (n0 + 33) (Nat.le_add_right _ _) (Nat.add_lt_add_left (by decide) _)⟩
    | 34, _, hj =>
      obtain rfl := Option.some.inj ((rfl : tw_ft[34]? = some (.inl (0, 58, 6, 0))).symm.trans hj)
      exact ⟨(h.2.2.1 (n0 + 34) _ (fil_g 34 rfl rfl)).1, hA (n0 + 34) (Nat.le_add_right _ _) (Nat.add_lt_add_left (by decide) _)⟩
    | 35, _, hj =>
      obtain rfl := Option.some.inj ((rfl : tw_ft[35]? = some (.inl (0, 59, 6, 0))).symm.trans hj)
      exact ⟨(h.2.2.1 (n0 + 35) _ (fil_g 35 rfl rfl)).1, hA (n0 + 35) (Nat.le_add_right _ _) (Nat.add_lt_add_left (by decide) _)⟩
    | 36, _, hj =>
      obtain rfl := Option.some.inj ((rfl : tw_ft[36]? = some (.inl (0, 60, 20, 0))).symm.trans hj)
      exact ⟨(h.2.2.1 (n0 + 36) _ (fil_g 36 rfl rfl)).1, hA (n0 + 36) (Nat.le_add_right _ _) (Nat.add_lt_add_left (by decide) _)⟩
    | 37, _, hj =>
      obtain rfl := Option.some.inj ((rfl : tw_ft[37]? = some (.inl (0, 61, 20, 0))).symm.trans hj)
      exact ⟨(h.2.2.1 (n0 + 37) _ (fil_g 37 rfl rfl)).1, hA (n0 + 37) (Nat.le_add_right _ _) (Nat.add_lt_add_left (by decide) _)⟩
    | 38, _, hj =>
      obtain rfl := Option.some.inj ((rfl : tw_ft[38]? = some (.inl (0, 62, 10, 0))).symm.trans hj)
      exact ⟨(h.2.2.1 (n0 + 38) _ (fil_g 38 rfl rfl)).1, hA (n0 + 38) (Nat.le_add_right _ _) (Nat.add_lt_add_left (by decide) _)⟩
    | 39, _, hj =>
      obtain rfl := Option.some.inj ((rfl : tw_ft[39]? = some (.inl (0, 67, 50, 0))).symm.trans hj)
      exact ⟨(h.2.2.1 (n0 + 39) _ (fil_g 39 rfl rfl)).1, hA (n0 + 39) (Nat.le_add_right _ _) (Nat.add_lt_add_left (by decide) _)⟩
    | 40, _, hj =>
      obtain rfl := Option.some.inj ((rfl : tw_ft[40]? = some (.inl (0, 68, 24, 0))).symm.trans hj)
      exact ⟨(h.2.2.1 (n0 + 40) _ (fil_g 40 rfl rfl)).1, hA (n0 + 40) (Nat.le_add_right _ _) (Nat.add_lt_add_left (by decide) _)⟩
    | 41, _, hj =>
      obtain rfl := Option.some.inj ((rfl : tw_ft[41]? = some (.inl (0, 72, 6, 0))).symm.trans hj)
      exact ⟨(h.2.2.1 (n0 + 41) _ (fil_g 41 rfl rfl)).1, hA (n0 + 41) (Nat.le_add_right _ _) (Nat.add_lt_add_left (by decide) _)⟩
    | 42, _, hj =>
      obtain rfl := Option.some.inj ((rfl : tw_ft[42]? = some (.inl (0, 73, 6, 0))).symm.trans hj)
      exact ⟨(h.2.2.1 (n0 + 42) _ (fil_g 42 rfl rfl)).1, hA (n0 + 42) (Nat.le_add_right _ _) (Nat.add_lt_add_left (by decide) _)⟩
    | 43, _, hj =>
      obtain rfl := Option.some.inj ((rfl : tw_ft[43]? = some (.inl (0, 74, 360, 2))).symm.trans hj)
      exact ⟨(h.2.2.1 (n0 + 43) _ (fil_g 43 rfl rfl)).1, hA (n0 + 43) (Nat.le_add_right _ _) (Nat.add_lt_add_left (by decide) _)⟩
    | 44, _, hj =>
      obtain rfl := Option.some.inj ((rfl : tw_ft[44]? = some (.inl (0, 75, 60, 2))).symm.trans hj)
      exact ⟨(h.2.2.1 (n0 + 44) _ (fil_g 44 rfl rfl)).1, hA (n0 + 44) (Nat.le_add_right _ _) (Nat.add_lt_add_left (by decide) _)⟩
    | j + 45, hjl, _ => exact absurd hjl (by omega)
  · rw [hl] at hi hj
    refine tw_posi i hi j hj ?_
    have e1 : (if i < 45 then n0 + tw_pos.getD i 0 else G.2.2.1 i) = (if j < 45 then n0 + tw_pos.getD j 0 else G.2.2.1 j) := e
    rw [if_pos hi, if_pos hj] at e1
    exact Nat.add_left_cancel e1
  · cases hz
