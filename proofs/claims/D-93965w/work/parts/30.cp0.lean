set_option maxRecDepth 100000
def mg_fl (b : Nat) : List (Nat × Nat) := [(1, 16 + 17 * b + 0), (1, 16 + 17 * b + 1), (1, 16 + 17 * b + 2), (1, 16 + 17 * b + 3), (1, 16 + 17 * b + 4), (1, 16 + 17 * b + 5), (1, 16 + 17 * b + 6), (1, 16 + 17 * b + 7), (1, 16 + 17 * b + 8), (1, 16 + 17 * b + 9), (1, 16 + 17 * b + 10), (1, 16 + 17 * b + 11), (1, 16 + 17 * b + 12), (1, 16 + 17 * b + 13), (1, 16 + 17 * b + 14), (1, 16 + 17 * b + 15), (0, 0), (0, 0), (0, 0), (0, 0), (0, 0), (1, 0)]
def cp_fl : List (Nat × Nat) := [(1, 1), (1, 2), (1, 3), (0, 0), (0, 0), (0, 0), (0, 0), (0, 0), (0, 0), (1, 4), (0, 0), (0, 0), (1, 5), (0, 0), (2, 0), (1, 13), (1, 6), (1, 15 + 17 * 0), (1, 15 + 17 * 1), (1, 7), (1, 8), (1, 9), (0, 0), (0, 0), (0, 0), (0, 0), (0, 0), (0, 0), (0, 0), (0, 0), (1, 10), (1, 11), (0, 0), (1, 12)]
def fa_fl : List (Nat × Nat) := [(1, 14)]
def cp_ft : List FC := [.inr (0, 0, cp_fl), .inl (0, 0, 10, 3), .inl (0, 1, 6, 4), .inl (0, 2, 20, 5), .inl (0, 9, 40, 6), .inl (0, 12, 120, 1), .inl (0, 16, 6, 0), .inl (0, 19, 10, 0), .inl (0, 20, 6, 0), .inl (0, 21, 10, 0), .inl (0, 30, 24, 1), .inl (0, 31, 50, 7), .inl (0, 33, 6, 8), .inr (3, 1, fa_fl), .inl (3, 0, 128, 0), .inr (1, 2, mg_fl 0), .inl (1, 0, 6, 0), .inl (1, 1, 200, 0), .inl (1, 2, 200, 0), .inl (1, 3, 200, 0), .inl (1, 4, 200, 0), .inl (1, 5, 200, 0), .inl (1, 6, 200, 0), .inl (1, 7, 200, 0), .inl (1, 8, 20, 0), .inl (1, 9, 20, 0), .inl (1, 10, 10, 0), .inl (1, 11, 10, 0), .inl (1, 12, 10, 0), .inl (1, 13, 10, 0), .inl (1, 14, 10, 0), .inl (1, 15, 10, 0), .inr (2, 2, mg_fl 1), .inl (2, 0, 6, 0), .inl (2, 1, 200, 0), .inl (2, 2, 200, 0), .inl (2, 3, 200, 0), .inl (2, 4, 200, 0), .inl (2, 5, 200, 0), .inl (2, 6, 200, 0), .inl (2, 7, 200, 0), .inl (2, 8, 20, 0), .inl (2, 9, 20, 0), .inl (2, 10, 10, 0), .inl (2, 11, 10, 0), .inl (2, 12, 10, 0), .inl (2, 13, 10, 0), .inl (2, 14, 10, 0), .inl (2, 15, 10, 0)]
theorem cp_w : ftW cp_ft := by unfold ftW; decide +kernel
theorem cp_c0 : cp_ft[0]? = some (.inr (0, 0, cp_fl)) := rfl
theorem cp_c1 : cp_ft[1]? = some (.inl (0, 0, 10, 3)) := rfl
theorem cp_c2 : cp_ft[2]? = some (.inl (0, 1, 6, 4)) := rfl
theorem cp_c3 : cp_ft[3]? = some (.inl (0, 2, 20, 5)) := rfl
theorem cp_c4 : cp_ft[4]? = some (.inl (0, 9, 40, 6)) := rfl
theorem cp_c5 : cp_ft[5]? = some (.inl (0, 12, 120, 1)) := rfl
theorem cp_c6 : cp_ft[6]? = some (.inl (0, 16, 6, 0)) := rfl
theorem cp_c7 : cp_ft[7]? = some (.inl (0, 19, 10, 0)) := rfl
theorem cp_c8 : cp_ft[8]? = some (.inl (0, 20, 6, 0)) := rfl
theorem cp_c9 : cp_ft[9]? = some (.inl (0, 21, 10, 0)) := rfl
theorem cp_c10 : cp_ft[10]? = some (.inl (0, 30, 24, 1)) := rfl
theorem cp_c11 : cp_ft[11]? = some (.inl (0, 31, 50, 7)) := rfl
theorem cp_c12 : cp_ft[12]? = some (.inl (0, 33, 6, 8)) := rfl
theorem cp_c13 : cp_ft[13]? = some (.inr (3, 1, fa_fl)) := rfl
theorem cp_c14 : cp_ft[14]? = some (.inl (3, 0, 128, 0)) := rfl
theorem cp_f0 : cp_fl[0]? = some (1, 1) := rfl
theorem cp_f1 : cp_fl[1]? = some (1, 2) := rfl
theorem cp_f2 : cp_fl[2]? = some (1, 3) := rfl
theorem cp_f3 : cp_fl[3]? = some (0, 0) := rfl
theorem cp_f4 : cp_fl[4]? = some (0, 0) := rfl
theorem cp_f5 : cp_fl[5]? = some (0, 0) := rfl
theorem cp_f6 : cp_fl[6]? = some (0, 0) := rfl
theorem cp_f7 : cp_fl[7]? = some (0, 0) := rfl
theorem cp_f8 : cp_fl[8]? = some (0, 0) := rfl
theorem cp_f9 : cp_fl[9]? = some (1, 4) := rfl
theorem cp_f10 : cp_fl[10]? = some (0, 0) := rfl
theorem cp_f11 : cp_fl[11]? = some (0, 0) := rfl
theorem cp_f12 : cp_fl[12]? = some (1, 5) := rfl
theorem cp_f13 : cp_fl[13]? = some (0, 0) := rfl
theorem cp_f14 : cp_fl[14]? = some (2, 0) := rfl
theorem cp_f15 : cp_fl[15]? = some (1, 13) := rfl
theorem cp_f16 : cp_fl[16]? = some (1, 6) := rfl
theorem cp_f17 : cp_fl[17]? = some (1, 15 + 17 * 0) := rfl
theorem cp_f18 : cp_fl[18]? = some (1, 15 + 17 * 1) := rfl
theorem cp_f19 : cp_fl[19]? = some (1, 7) := rfl
theorem cp_f20 : cp_fl[20]? = some (1, 8) := rfl
theorem cp_f21 : cp_fl[21]? = some (1, 9) := rfl
theorem cp_f22 : cp_fl[22]? = some (0, 0) := rfl
theorem cp_f23 : cp_fl[23]? = some (0, 0) := rfl
theorem cp_f24 : cp_fl[24]? = some (0, 0) := rfl
theorem cp_f25 : cp_fl[25]? = some (0, 0) := rfl
theorem cp_f26 : cp_fl[26]? = some (0, 0) := rfl
theorem cp_f27 : cp_fl[27]? = some (0, 0) := rfl
theorem cp_f28 : cp_fl[28]? = some (0, 0) := rfl
theorem cp_f29 : cp_fl[29]? = some (0, 0) := rfl
theorem cp_f30 : cp_fl[30]? = some (1, 10) := rfl
theorem cp_f31 : cp_fl[31]? = some (1, 11) := rfl
theorem cp_f32 : cp_fl[32]? = some (0, 0) := rfl
theorem cp_f33 : cp_fl[33]? = some (1, 12) := rfl
theorem fa_f0 : fa_fl[0]? = some (1, 14) := rfl
theorem mg_c (b : Nat) (hb : b < 2) : cp_ft[15 + 17 * b]? = some (.inr (1 + b, 2, mg_fl b)) := by
  match b, hb with
  | 0, _ => rfl
  | 1, _ => rfl
theorem mg_a0 (b : Nat) (hb : b < 2) : cp_ft[16 + 17 * b + 0]? = some (.inl (1 + b, 0, 6, 0)) := by
  match b, hb with
  | 0, _ => rfl
  | 1, _ => rfl
theorem mg_a1 (b : Nat) (hb : b < 2) : cp_ft[16 + 17 * b + 1]? = some (.inl (1 + b, 1, 200, 0)) := by
  match b, hb with
  | 0, _ => rfl
  | 1, _ => rfl
theorem mg_a2 (b : Nat) (hb : b < 2) : cp_ft[16 + 17 * b + 2]? = some (.inl (1 + b, 2, 200, 0)) := by
  match b, hb with
  | 0, _ => rfl
  | 1, _ => rfl
theorem mg_a3 (b : Nat) (hb : b < 2) : cp_ft[16 + 17 * b + 3]? = some (.inl (1 + b, 3, 200, 0)) := by
  match b, hb with
  | 0, _ => rfl
  | 1, _ => rfl
theorem mg_a4 (b : Nat) (hb : b < 2) : cp_ft[16 + 17 * b + 4]? = some (.inl (1 + b, 4, 200, 0)) := by
  match b, hb with
  | 0, _ => rfl
  | 1, _ => rfl
theorem mg_a5 (b : Nat) (hb : b < 2) : cp_ft[16 + 17 * b + 5]? = some (.inl (1 + b, 5, 200, 0)) := by
  match b, hb with
  | 0, _ => rfl
  | 1, _ => rfl
theorem mg_a6 (b : Nat) (hb : b < 2) : cp_ft[16 + 17 * b + 6]? = some (.inl (1 + b, 6, 200, 0)) := by
  match b, hb with
  | 0, _ => rfl
  | 1, _ => rfl
theorem mg_a7 (b : Nat) (hb : b < 2) : cp_ft[16 + 17 * b + 7]? = some (.inl (1 + b, 7, 200, 0)) := by
  match b, hb with
  | 0, _ => rfl
  | 1, _ => rfl
theorem mg_a8 (b : Nat) (hb : b < 2) : cp_ft[16 + 17 * b + 8]? = some (.inl (1 + b, 8, 20, 0)) := by
  match b, hb with
  | 0, _ => rfl
  | 1, _ => rfl
theorem mg_a9 (b : Nat) (hb : b < 2) : cp_ft[16 + 17 * b + 9]? = some (.inl (1 + b, 9, 20, 0)) := by
  match b, hb with
  | 0, _ => rfl
  | 1, _ => rfl
theorem mg_a10 (b : Nat) (hb : b < 2) : cp_ft[16 + 17 * b + 10]? = some (.inl (1 + b, 10, 10, 0)) := by
  match b, hb with
  | 0, _ => rfl
  | 1, _ => rfl
theorem mg_a11 (b : Nat) (hb : b < 2) : cp_ft[16 + 17 * b + 11]? = some (.inl (1 + b, 11, 10, 0)) := by
  match b, hb with
  | 0, _ => rfl
  | 1, _ => rfl
theorem mg_a12 (b : Nat) (hb : b < 2) : cp_ft[16 + 17 * b + 12]? = some (.inl (1 + b, 12, 10, 0)) := by
  match b, hb with
  | 0, _ => rfl
  | 1, _ => rfl
theorem mg_a13 (b : Nat) (hb : b < 2) : cp_ft[16 + 17 * b + 13]? = some (.inl (1 + b, 13, 10, 0)) := by
  match b, hb with
  | 0, _ => rfl
  | 1, _ => rfl
theorem mg_a14 (b : Nat) (hb : b < 2) : cp_ft[16 + 17 * b + 14]? = some (.inl (1 + b, 14, 10, 0)) := by
  match b, hb with
  | 0, _ => rfl
  | 1, _ => rfl
theorem mg_a15 (b : Nat) (hb : b < 2) : cp_ft[16 + 17 * b + 15]? = some (.inl (1 + b, 15, 10, 0)) := by
  match b, hb with
  | 0, _ => rfl
  | 1, _ => rfl
theorem mg_f0 (b : Nat) : (mg_fl b)[0]? = some (1, 16 + 17 * b + 0) := rfl
theorem mg_f1 (b : Nat) : (mg_fl b)[1]? = some (1, 16 + 17 * b + 1) := rfl
theorem mg_f2 (b : Nat) : (mg_fl b)[2]? = some (1, 16 + 17 * b + 2) := rfl
theorem mg_f3 (b : Nat) : (mg_fl b)[3]? = some (1, 16 + 17 * b + 3) := rfl
theorem mg_f4 (b : Nat) : (mg_fl b)[4]? = some (1, 16 + 17 * b + 4) := rfl
theorem mg_f5 (b : Nat) : (mg_fl b)[5]? = some (1, 16 + 17 * b + 5) := rfl
theorem mg_f6 (b : Nat) : (mg_fl b)[6]? = some (1, 16 + 17 * b + 6) := rfl
theorem mg_f7 (b : Nat) : (mg_fl b)[7]? = some (1, 16 + 17 * b + 7) := rfl
theorem mg_f8 (b : Nat) : (mg_fl b)[8]? = some (1, 16 + 17 * b + 8) := rfl
theorem mg_f9 (b : Nat) : (mg_fl b)[9]? = some (1, 16 + 17 * b + 9) := rfl
theorem mg_f10 (b : Nat) : (mg_fl b)[10]? = some (1, 16 + 17 * b + 10) := rfl
theorem mg_f11 (b : Nat) : (mg_fl b)[11]? = some (1, 16 + 17 * b + 11) := rfl
theorem mg_f12 (b : Nat) : (mg_fl b)[12]? = some (1, 16 + 17 * b + 12) := rfl
theorem mg_f13 (b : Nat) : (mg_fl b)[13]? = some (1, 16 + 17 * b + 13) := rfl
theorem mg_f14 (b : Nat) : (mg_fl b)[14]? = some (1, 16 + 17 * b + 14) := rfl
theorem mg_f15 (b : Nat) : (mg_fl b)[15]? = some (1, 16 + 17 * b + 15) := rfl
theorem mg_f16 (b : Nat) : (mg_fl b)[16]? = some (0, 0) := rfl
theorem mg_f17 (b : Nat) : (mg_fl b)[17]? = some (0, 0) := rfl
theorem mg_f18 (b : Nat) : (mg_fl b)[18]? = some (0, 0) := rfl
theorem mg_f19 (b : Nat) : (mg_fl b)[19]? = some (0, 0) := rfl
theorem mg_f20 (b : Nat) : (mg_fl b)[20]? = some (0, 0) := rfl
theorem mg_f21 (b : Nat) : (mg_fl b)[21]? = some (1, 0) := rfl
