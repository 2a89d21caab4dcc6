set_option maxRecDepth 100000
def cp_L (ks : Nat → ClassId) (n0 : Nat) : List va_E := [.inr (0, [.ref (n0 + 1), .ref (n0 + 2), .ref (n0 + 3), .int 0, .int 0, .int 0, .int 0, .int 0, .int 3, .ref (n0 + 4), .int 0, .int 0, .ref (n0 + 5), .int 0, .null, .ref (n0 + 6), .ref (n0 + 8), .ref (n0 + 9), .ref (n0 + 26), .ref (n0 + 43), .ref (n0 + 44), .ref (n0 + 45), .int 0, .int 0, .int 0, .int 0, .int 0, .int 0, .int 0, .int 0, .ref (n0 + 46), .ref (n0 + 47), .int 0, .ref (n0 + 48)]), .inl (ks 3, 10, .inr (.inr (.inr (.inr (fun _ => none))))), .inl (ks 4, 6, .inr (.inr (.inr (.inr (fun _ => none))))), .inl (ks 5, 20, .inr (.inr (.inr (.inr (fun _ => none))))), .inl (ks 6, 40, .inr (.inr (.inr (.inr (fun _ => none))))), .inl (ks 1, 120, .inl (fun _ => 0)), .inr (1, [.ref (n0 + 7)]), .inl (ks 0, 128, .inl (fun _ => 0)), .inl (ks 0, 6, .inl (fun _ => 0)), .inr (2, [.ref (n0 + 10), .ref (n0 + 11), .ref (n0 + 12), .ref (n0 + 13), .ref (n0 + 14), .ref (n0 + 15), .ref (n0 + 16), .ref (n0 + 17), .ref (n0 + 18), .ref (n0 + 19), .ref (n0 + 20), .ref (n0 + 21), .ref (n0 + 22), .ref (n0 + 23), .ref (n0 + 24), .ref (n0 + 25), .int 0, .int 0, .int 0, .int 0, .int 0, .ref n0]), .inl (ks 0, 6, .inl (fun _ => 0)), .inl (ks 0, 200, .inl (fun _ => 0)), .inl (ks 0, 200, .inl (fun _ => 0)), .inl (ks 0, 200, .inl (fun _ => 0)), .inl (ks 0, 200, .inl (fun _ => 0)), .inl (ks 0, 200, .inl (fun _ => 0)), .inl (ks 0, 200, .inl (fun _ => 0)), .inl (ks 0, 200, .inl (fun _ => 0)), .inl (ks 0, 20, .inl (fun _ => 0)), .inl (ks 0, 20, .inl (fun _ => 0)), .inl (ks 0, 10, .inl (fun _ => 0)), .inl (ks 0, 10, .inl (fun _ => 0)), .inl (ks 0, 10, .inl (fun _ => 0)), .inl (ks 0, 10, .inl (fun _ => 0)), .inl (ks 0, 10, .inl (fun _ => 0)), .inl (ks 0, 10, .inl (fun _ => 0)), .inr (2, [.ref (n0 + 27), .ref (n0 + 28), .ref (n0 + 29), .ref (n0 + 30), .ref (n0 + 31), .ref (n0 + 32), .ref (n0 + 33), .ref (n0 + 34), .ref (n0 + 35), .ref (n0 + 36), .ref (n0 + 37), .ref (n0 + 38), .ref (n0 + 39), .ref (n0 + 40), .ref (n0 + 41), .ref (n0 + 42), .int 0, .int 0, .int 0, .int 0, .int 0, .ref n0]), .inl (ks 0, 6, .inl (fun _ => 0)), .inl (ks 0, 200, .inl (fun _ => 0)), .inl (ks 0, 200, .inl (fun _ => 0)), .inl (ks 0, 200, .inl (fun _ => 0)), .inl (ks 0, 200, .inl (fun _ => 0)), .inl (ks 0, 200, .inl (fun _ => 0)), .inl (ks 0, 200, .inl (fun _ => 0)), .inl (ks 0, 200, .inl (fun _ => 0)), .inl (ks 0, 20, .inl (fun _ => 0)), .inl (ks 0, 20, .inl (fun _ => 0)), .inl (ks 0, 10, .inl (fun _ => 0)), .inl (ks 0, 10, .inl (fun _ => 0)), .inl (ks 0, 10, .inl (fun _ => 0)), .inl (ks 0, 10, .inl (fun _ => 0)), .inl (ks 0, 10, .inl (fun _ => 0)), .inl (ks 0, 10, .inl (fun _ => 0)), .inl (ks 0, 10, .inl (fun _ => 0)), .inl (ks 0, 6, .inl (fun _ => 0)), .inl (ks 0, 10, .inl (fun _ => 0)), .inl (ks 1, 24, .inl (fun _ => 0)), .inl (ks 7, 50, .inr (.inr (.inr (.inr (fun _ => none))))), .inl (ks 8, 6, .inr (.inr (.inr (.inr (fun _ => none)))))]
set_option maxHeartbeats 4000000 in
theorem cp_init_eq (ks : Nat → ClassId) (σ : ST) (n0 w : Nat) : cp_init ks (fil σ n0 [.inr (0, [.null, .null, .null, .int 0, .int 0, .int 0, .int 0, .int 0, .int 0, .null, .int 0, .int 0, .null, .int 0, .null, .null, .null, .null, .null, .null, .null, .null, .int 0, .int 0, .int 0, .int 0, .int 0, .int 0, .int 0, .int 0, .null, .null, .int 0, .null])] w) n0 = some (fil σ n0 (cp_L ks n0) (w + 3493)) := by
  unfold cp_init
  refine st_step fil_aloq ?_
  refine bo_step (fil_ppv 0 rfl rfl (Nat.le_of_ble_eq_true rfl)) ?_
  refine st_step fil_aloq ?_
  refine bo_step (fil_ppv 0 rfl rfl (Nat.le_of_ble_eq_true rfl)) ?_
  refine st_step fil_aloq ?_
  refine bo_step (fil_ppv 0 rfl rfl (Nat.le_of_ble_eq_true rfl)) ?_
  refine bo_step (fil_ppv 0 rfl rfl (Nat.le_of_ble_eq_true rfl)) ?_
  refine st_step fil_aloq ?_
  refine bo_step (fil_ppv 0 rfl rfl (Nat.le_of_ble_eq_true rfl)) ?_
  refine st_step fil_aloi ?_
  refine bo_step (fil_ppv 0 rfl rfl (Nat.le_of_ble_eq_true rfl)) ?_
  refine st_step fil_aloc ?_
  refine bo_step (by
    unfold fa_init
    refine st_step fil_aloi ?_
    refine bo_step (fil_ppv 6 rfl rfl (Nat.le_of_ble_eq_true rfl)) ?_
    exact rfl) ?_
  refine bo_step (fil_ppv 0 rfl rfl (Nat.le_of_ble_eq_true rfl)) ?_
  refine st_step fil_aloi ?_
  refine bo_step (fil_ppv 0 rfl rfl (Nat.le_of_ble_eq_true rfl)) ?_
  refine st_step fil_aloc ?_
  refine bo_step (by
    unfold mg_init
    refine bo_step (fil_ppv 9 rfl rfl (Nat.le_of_ble_eq_true rfl)) ?_
    refine st_step fil_aloi ?_
    refine bo_step (fil_ppv 9 rfl rfl (Nat.le_of_ble_eq_true rfl)) ?_
    refine st_step fil_aloi ?_
    refine bo_step (fil_ppv 9 rfl rfl (Nat.le_of_ble_eq_true rfl)) ?_
    refine st_step fil_aloi ?_
    refine bo_step (fil_ppv 9 rfl rfl (Nat.le_of_ble_eq_true rfl)) ?_
    refine st_step fil_aloi ?_
    refine bo_step (fil_ppv 9 rfl rfl (Nat.le_of_ble_eq_true rfl)) ?_
    refine st_step fil_aloi ?_
    refine bo_step (fil_ppv 9 rfl rfl (Nat.le_of_ble_eq_true rfl)) ?_
    refine st_step fil_aloi ?_
    refine bo_step (fil_ppv 9 rfl rfl (Nat.le_of_ble_eq_true rfl)) ?_
    refine st_step fil_aloi ?_
    refine bo_step (fil_ppv 9 rfl rfl (Nat.le_of_ble_eq_true rfl)) ?_
    refine st_step fil_aloi ?_
    refine bo_step (fil_ppv 9 rfl rfl (Nat.le_of_ble_eq_true rfl)) ?_
    refine st_step fil_aloi ?_
    refine bo_step (fil_ppv 9 rfl rfl (Nat.le_of_ble_eq_true rfl)) ?_
    refine st_step fil_aloi ?_
    refine bo_step (fil_ppv 9 rfl rfl (Nat.le_of_ble_eq_true rfl)) ?_
    refine st_step fil_aloi ?_
    refine bo_step (fil_ppv 9 rfl rfl (Nat.le_of_ble_eq_true rfl)) ?_
    refine st_step fil_aloi ?_
    refine bo_step (fil_ppv 9 rfl rfl (Nat.le_of_ble_eq_true rfl)) ?_
    refine st_step fil_aloi ?_
    refine bo_step (fil_ppv 9 rfl rfl (Nat.le_of_ble_eq_true rfl)) ?_
    refine st_step fil_aloi ?_
    refine bo_step (fil_ppv 9 rfl rfl (Nat.le_of_ble_eq_true rfl)) ?_
    refine st_step fil_aloi ?_
    refine bo_step (fil_ppv 9 rfl rfl (Nat.le_of_ble_eq_true rfl)) ?_
    refine st_step fil_aloi ?_
    refine bo_step (fil_ppv 9 rfl rfl (Nat.le_of_ble_eq_true rfl)) ?_
    exact rfl) ?_
  refine bo_step (fil_ppv 0 rfl rfl (Nat.le_of_ble_eq_true rfl)) ?_
  refine st_step fil_aloc ?_
  refine bo_step (by
    unfold mg_init
    refine bo_step (fil_ppv 26 rfl rfl (Nat.le_of_ble_eq_true rfl)) ?_
    refine st_step fil_aloi ?_
    refine bo_step (fil_ppv 26 rfl rfl (Nat.le_of_ble_eq_true rfl)) ?_
    refine st_step fil_aloi ?_
    refine bo_step (fil_ppv 26 rfl rfl (Nat.le_of_ble_eq_true rfl)) ?_
    refine st_step fil_aloi ?_
    refine bo_step (fil_ppv 26 rfl rfl (Nat.le_of_ble_eq_true rfl)) ?_
    refine st_step fil_aloi ?_
    refine bo_step (fil_ppv 26 rfl rfl (Nat.le_of_ble_eq_true rfl)) ?_
    refine st_step fil_aloi ?_
    refine bo_step (fil_ppv 26 rfl rfl (Nat.le_of_ble_eq_true rfl)) ?_
    refine st_step fil_aloi ?_
    refine bo_step (fil_ppv 26 rfl rfl (Nat.le_of_ble_eq_true rfl)) ?_
    refine st_step fil_aloi ?_
    refine bo_step (fil_ppv 26 rfl rfl (Nat.le_of_ble_eq_true rfl)) ?_
    refine st_step fil_aloi ?_
    refine bo_step (fil_ppv 26 rfl rfl (Nat.le_of_ble_eq_true rfl)) ?_
    refine st_step fil_aloi ?_
    refine bo_step (fil_ppv 26 rfl rfl (Nat.le_of_ble_eq_true rfl)) ?_
    refine st_step fil_aloi ?_
    refine bo_step (fil_ppv 26 rfl rfl (Nat.le_of_ble_eq_true rfl)) ?_
    refine st_step fil_aloi ?_
    refine bo_step (fil_ppv 26 rfl rfl (Nat.le_of_ble_eq_true rfl)) ?_
    refine st_step fil_aloi ?_
    refine bo_step (fil_ppv 26 rfl rfl (Nat.le_of_ble_eq_true rfl)) ?_
    refine st_step fil_aloi ?_
    refine bo_step (fil_ppv 26 rfl rfl (Nat.le_of_ble_eq_true rfl)) ?_
    refine st_step fil_aloi ?_
    refine bo_step (fil_ppv 26 rfl rfl (Nat.le_of_ble_eq_true rfl)) ?_
    refine st_step fil_aloi ?_
    refine bo_step (fil_ppv 26 rfl rfl (Nat.le_of_ble_eq_true rfl)) ?_
    refine st_step fil_aloi ?_
    refine bo_step (fil_ppv 26 rfl rfl (Nat.le_of_ble_eq_true rfl)) ?_
    exact rfl) ?_
  refine bo_step (fil_ppv 0 rfl rfl (Nat.le_of_ble_eq_true rfl)) ?_
  refine st_step fil_aloi ?_
  refine bo_step (fil_ppv 0 rfl rfl (Nat.le_of_ble_eq_true rfl)) ?_
  refine st_step fil_aloi ?_
  refine bo_step (fil_ppv 0 rfl rfl (Nat.le_of_ble_eq_true rfl)) ?_
  refine st_step fil_aloi ?_
  refine bo_step (fil_ppv 0 rfl rfl (Nat.le_of_ble_eq_true rfl)) ?_
  refine st_step fil_aloi ?_
  refine bo_step (fil_ppv 0 rfl rfl (Nat.le_of_ble_eq_true rfl)) ?_
  refine st_step fil_aloq ?_
  refine bo_step (fil_ppv 0 rfl rfl (Nat.le_of_ble_eq_true rfl)) ?_
  refine st_step fil_aloq ?_
  refine bo_step (fil_ppv 0 rfl rfl (Nat.le_of_ble_eq_true rfl)) ?_
  exact rfl
theorem tw_lp {ks : Nat → ClassId} {n0 n : Nat} {i : Int32} {σ : ST} {r : Option ST} (h : ¬ (6 : Int32) ≤ i) (h2 : bo (pgr σ (some n0) 3 72) (fun (v : Option Nat) => bo (psi σ v (ks 0) i (-1 : Int32)) (fun (σ1 : ST) => wl2 (tw_init_B373 ks n0) n (i + (1 : Int32)) σ1)) = r) : wl2 (tw_init_B373 ks n0) (n + 1) i σ = r := by
  show tw_init_B373 ks n0 (wl2 (tw_init_B373 ks n0) n) i σ = r
  unfold tw_init_B373
  rw [if_neg h]
  exact h2
theorem tw_lpe {ks : Nat → ClassId} {n0 n : Nat} {i : Int32} {σ : ST} (h : (6 : Int32) ≤ i) : wl2 (tw_init_B373 ks n0) (n + 1) i σ = some σ := by
  show tw_init_B373 ks n0 (wl2 (tw_init_B373 ks n0) n) i σ = _
  unfold tw_init_B373
  rw [if_pos h]
def tw_L (ks : Nat → ClassId) (n0 : Nat) : List va_E := [.inr (3, [.ref (n0 + 1), .ref (n0 + 2), .ref (n0 + 3), .ref (n0 + 4), .int 0, .int 0, .int 0, .ref (n0 + 5), .int 0, .int 0, .ref (n0 + 6), .ref (n0 + 7), .ref (n0 + 8), .int 0, .int 0, .int (3), .ref (n0 + 9), .int 0, .ref (n0 + 10), .int (-1), .int 0, .int 0, .int 0, .int 0, .int 0, .ref (n0 + 11), .int 0, .int 0, .int 0, .int 0, .int 0, .int 0, .ref (n0 + 12), .ref (n0 + 13), .ref (n0 + 14), .ref (n0 + 15), .ref (n0 + 16), .ref (n0 + 17), .ref (n0 + 18), .ref (n0 + 19), .ref (n0 + 20), .ref (n0 + 21), .ref (n0 + 22), .ref (n0 + 23), .ref (n0 + 24), .ref (n0 + 25), .int (-1), .int 0, .int 0, .int 0, .ref (n0 + 26), .ref (n0 + 27), .ref (n0 + 28), .ref (n0 + 29), .ref (n0 + 30), .ref (n0 + 31), .ref (n0 + 32), .ref (n0 + 33), .ref (n0 + 34), .ref (n0 + 35), .ref (n0 + 36), .ref (n0 + 37), .ref (n0 + 38), .int 0, .int 0, .int 0, .int 0, .ref (n0 + 39), .ref (n0 + 40), .int 0, .int 0, .int 0, .ref (n0 + 41), .ref (n0 + 42), .ref (n0 + 43), .ref (n0 + 44)]), .inl (ks 0, 42, .inl (fun _ => 0)), .inl (ks 0, 40, .inl (fun _ => 0)), .inl (ks 0, 40, .inl (fun _ => 0)), .inl (ks 0, 40, .inl (fun _ => 0)), .inl (ks 0, 10, .inl (fun _ => 0)), .inl (ks 0, 20, .inl (fun _ => 0)), .inl (ks 0, 20, .inl (fun _ => 0)), .inl (ks 0, 20, .inl (fun _ => 0)), .inl (ks 0, 120, .inl (fun _ => 0)), .inl (ks 0, 120, .inl (fun _ => 0)), .inl (ks 0, 8, .inl (fun _ => 0)), .inl (ks 0, 10, .inl (fun _ => 0)), .inl (ks 0, 10, .inl (fun _ => 0)), .inl (ks 0, 10, .inl (fun _ => 0)), .inl (ks 0, 20, .inl (fun _ => 0)), .inl (ks 0, 20, .inl (fun _ => 0)), .inl (ks 0, 6, .inl (fun _ => 0)), .inl (ks 0, 6, .inl (fun _ => 0)), .inl (ks 0, 200, .inl (fun _ => 0)), .inl (ks 0, 200, .inl (fun _ => 0)), .inl (ks 0, 200, .inl (fun _ => 0)), .inl (ks 0, 200, .inl (fun _ => 0)), .inl (ks 0, 200, .inl (fun _ => 0)), .inl (ks 0, 200, .inl (fun _ => 0)), .inl (ks 0, 200, .inl (fun _ => 0)), .inl (ks 0, 10, .inl (fun _ => 0)), .inl (ks 0, 200, .inl (fun _ => 0)), .inl (ks 0, 200, .inl (fun _ => 0)), .inl (ks 0, 200, .inl (fun _ => 0)), .inl (ks 0, 200, .inl (fun _ => 0)), .inl (ks 0, 200, .inl (fun _ => 0)), .inl (ks 0, 200, .inl (fun _ => 0)), .inl (ks 0, 200, .inl (fun _ => 0)), .inl (ks 0, 6, .inl (fun _ => 0)), .inl (ks 0, 6, .inl (fun _ => 0)), .inl (ks 0, 20, .inl (fun _ => 0)), .inl (ks 0, 20, .inl (fun _ => 0)), .inl (ks 0, 10, .inl (fun _ => 0)), .inl (ks 0, 50, .inl (fun _ => 0)), .inl (ks 0, 24, .inl (fun _ => 0)), .inl (ks 0, 6, .inl (upd (upd (upd (upd (upd (upd (fun _ => 0) 0 (-1)) 1 (-1)) 2 (-1)) 3 (-1)) 4 (-1)) 5 (-1))), .inl (ks 0, 6, .inl (fun _ => 0)), .inl (ks 2, 360, .inr (.inl (fun _ => 0))), .inl (ks 2, 60, .inr (.inl (fun _ => 0)))]
set_option maxHeartbeats 4000000 in
theorem tw_init_eq (ks : Nat → ClassId) (σ : ST) (n0 w : Nat) : tw_init ks (fil σ n0 [.inr (3, [.null, .null, .null, .null, .int 0, .int 0, .int 0, .null, .int 0, .int 0, .null, .null, .null, .int 0, .int 0, .int 0, .null, .int 0, .null, .int 0, .int 0, .int 0, .int 0, .int 0, .int 0, .null, .int 0, .int 0, .int 0, .int 0, .int 0, .int 0, .null, .null, .null, .null, .null, .null, .null, .null, .null, .null, .null, .null, .null, .null, .int 0, .int 0, .int 0, .int 0, .null, .null, .null, .null, .null, .null, .null, .null, .null, .null, .null, .null, .null, .int 0, .int 0, .int 0, .int 0, .null, .null, .int 0, .int 0, .int 0, .null, .null, .null, .null])] w) n0 = some (fil σ n0 (tw_L ks n0) (w + 3940)) := by
  unfold tw_init
  refine st_step fil_aloi ?_
  refine bo_step (fil_ppv 0 rfl rfl (Nat.le_of_ble_eq_true rfl)) ?_
  refine st_step fil_aloi ?_
  refine bo_step (fil_ppv 0 rfl rfl (Nat.le_of_ble_eq_true rfl)) ?_
  refine st_step fil_aloi ?_
  refine bo_step (fil_ppv 0 rfl rfl (Nat.le_of_ble_eq_true rfl)) ?_
  refine st_step fil_aloi ?_
  refine bo_step (fil_ppv 0 rfl rfl (Nat.le_of_ble_eq_true rfl)) ?_
  refine st_step fil_aloi ?_
  refine bo_step (fil_ppv 0 rfl rfl (Nat.le_of_ble_eq_true rfl)) ?_
  refine st_step fil_aloi ?_
  refine bo_step (fil_ppv 0 rfl rfl (Nat.le_of_ble_eq_true rfl)) ?_
  refine st_step fil_aloi ?_
  refine bo_step (fil_ppv 0 rfl rfl (Nat.le_of_ble_eq_true rfl)) ?_
  refine st_step fil_aloi ?_
  refine bo_step (fil_ppv 0 rfl rfl (Nat.le_of_ble_eq_true rfl)) ?_
  refine st_step fil_aloi ?_
  refine bo_step (fil_ppv 0 rfl rfl (Nat.le_of_ble_eq_true rfl)) ?_
  refine st_step fil_aloi ?_
  refine bo_step (fil_ppv 0 rfl rfl (Nat.le_of_ble_eq_true rfl)) ?_
  refine st_step fil_aloi ?_
  refine bo_step (fil_ppv 0 rfl rfl (Nat.le_of_ble_eq_true rfl)) ?_
  refine st_step fil_aloi ?_
  refine bo_step (fil_ppv 0 rfl rfl (Nat.le_of_ble_eq_true rfl)) ?_
  refine st_step fil_aloi ?_
  refine bo_step (fil_ppv 0 rfl rfl (Nat.le_of_ble_eq_true rfl)) ?_
  refine st_step fil_aloi ?_
  refine bo_step (fil_ppv 0 rfl rfl (Nat.le_of_ble_eq_true rfl)) ?_
  refine st_step fil_aloi ?_
  refine bo_step (fil_ppv 0 rfl rfl (Nat.le_of_ble_eq_true rfl)) ?_
  refine st_step fil_aloi ?_
  refine bo_step (fil_ppv 0 rfl rfl (Nat.le_of_ble_eq_true rfl)) ?_
  refine st_step fil_aloi ?_
  refine bo_step (fil_ppv 0 rfl rfl (Nat.le_of_ble_eq_true rfl)) ?_
  refine st_step fil_aloi ?_
  refine bo_step (fil_ppv 0 rfl rfl (Nat.le_of_ble_eq_true rfl)) ?_
  refine st_step fil_aloi ?_
  refine bo_step (fil_ppv 0 rfl rfl (Nat.le_of_ble_eq_true rfl)) ?_
  refine st_step fil_aloi ?_
  refine bo_step (fil_ppv 0 rfl rfl (Nat.le_of_ble_eq_true rfl)) ?_
  refine st_step fil_aloi ?_
  refine bo_step (fil_ppv 0 rfl rfl (Nat.le_of_ble_eq_true rfl)) ?_
  refine st_step fil_aloi ?_
  refine bo_step (fil_ppv 0 rfl rfl (Nat.le_of_ble_eq_true rfl)) ?_
  refine st_step fil_aloi ?_
  refine bo_step (fil_ppv 0 rfl rfl (Nat.le_of_ble_eq_true rfl)) ?_
  refine st_step fil_aloi ?_
  refine bo_step (fil_ppv 0 rfl rfl (Nat.le_of_ble_eq_true rfl)) ?_
  refine st_step fil_aloi ?_
  refine bo_step (fil_ppv 0 rfl rfl (Nat.le_of_ble_eq_true rfl)) ?_
  refine st_step fil_aloi ?_
  refine bo_step (fil_ppv 0 rfl rfl (Nat.le_of_ble_eq_true rfl)) ?_
  refine st_step fil_aloi ?_
  refine bo_step (fil_ppv 0 rfl rfl (Nat.le_of_ble_eq_true rfl)) ?_
  refine st_step fil_aloi ?_
  refine bo_step (fil_ppv 0 rfl rfl (Nat.le_of_ble_eq_true rfl)) ?_
  refine st_step fil_aloi ?_
  refine bo_step (fil_ppv 0 rfl rfl (Nat.le_of_ble_eq_true rfl)) ?_
  refine st_step fil_aloi ?_
  refine bo_step (fil_ppv 0 rfl rfl (Nat.le_of_ble_eq_true rfl)) ?_
  refine st_step fil_aloi ?_
  refine bo_step (fil_ppv 0 rfl rfl (Nat.le_of_ble_eq_true rfl)) ?_
  refine st_step fil_aloi ?_
  refine bo_step (fil_ppv 0 rfl rfl (Nat.le_of_ble_eq_true rfl)) ?_
  refine st_step fil_aloi ?_
  refine bo_step (fil_ppv 0 rfl rfl (Nat.le_of_ble_eq_true rfl)) ?_
  refine st_step fil_aloi ?_
  refine bo_step (fil_ppv 0 rfl rfl (Nat.le_of_ble_eq_true rfl)) ?_
  refine st_step fil_aloi ?_
  refine bo_step (fil_ppv 0 rfl rfl (Nat.le_of_ble_eq_true rfl)) ?_
  refine st_step fil_aloi ?_
  refine bo_step (fil_ppv 0 rfl rfl (Nat.le_of_ble_eq_true rfl)) ?_
  refine st_step fil_aloi ?_
  refine bo_step (fil_ppv 0 rfl rfl (Nat.le_of_ble_eq_true rfl)) ?_
  refine st_step fil_aloi ?_
  refine bo_step (fil_ppv 0 rfl rfl (Nat.le_of_ble_eq_true rfl)) ?_
  refine st_step fil_aloi ?_
  refine bo_step (fil_ppv 0 rfl rfl (Nat.le_of_ble_eq_true rfl)) ?_
  refine st_step fil_aloi ?_
  refine bo_step (fil_ppv 0 rfl rfl (Nat.le_of_ble_eq_true rfl)) ?_
  refine st_step fil_aloi ?_
  refine bo_step (fil_ppv 0 rfl rfl (Nat.le_of_ble_eq_true rfl)) ?_
  refine st_step fil_aloi ?_
  refine bo_step (fil_ppv 0 rfl rfl (Nat.le_of_ble_eq_true rfl)) ?_
  refine st_step fil_alol ?_
  refine bo_step (fil_ppv 0 rfl rfl (Nat.le_of_ble_eq_true rfl)) ?_
  refine st_step fil_alol ?_
  refine bo_step (fil_ppv 0 rfl rfl (Nat.le_of_ble_eq_true rfl)) ?_
  refine bo_step (by
    refine tw_lp (by decide) ?_
    refine bo_step (fil_pgr 0 rfl rfl rfl) ?_
    refine bo_step (fil_psi 41 rfl rfl (by decide)) ?_
    refine tw_lp (by decide) ?_
    refine bo_step (fil_pgr 0 rfl rfl rfl) ?_
    refine bo_step (fil_psi 41 rfl rfl (by decide)) ?_
    refine tw_lp (by decide) ?_
    refine bo_step (fil_pgr 0 rfl rfl rfl) ?_
    refine bo_step (fil_psi 41 rfl rfl (by decide)) ?_
    refine tw_lp (by decide) ?_
    refine bo_step (fil_pgr 0 rfl rfl rfl) ?_
    refine bo_step (fil_psi 41 rfl rfl (by decide)) ?_
    refine tw_lp (by decide) ?_
    refine bo_step (fil_pgr 0 rfl rfl rfl) ?_
    refine bo_step (fil_psi 41 rfl rfl (by decide)) ?_
    refine tw_lp (by decide) ?_
    refine bo_step (fil_pgr 0 rfl rfl rfl) ?_
    refine bo_step (fil_psi 41 rfl rfl (by decide)) ?_
    exact tw_lpe (by decide)) ?_
  refine bo_step (fil_ppv 0 rfl rfl (Nat.le_of_ble_eq_true rfl)) ?_
  refine bo_step (fil_ppv 0 rfl rfl (Nat.le_of_ble_eq_true rfl)) ?_
  refine bo_step (fil_ppv 0 rfl rfl (Nat.le_of_ble_eq_true rfl)) ?_
  exact rfl
