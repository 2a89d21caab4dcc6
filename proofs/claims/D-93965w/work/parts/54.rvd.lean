set_option maxRecDepth 100000
theorem hcs_Row : ∀ ci ∈ ([15, 16, 17, 18, 19] : List Nat), ∃ (C : String) (T : u_T) (N : Nat), lk_cl[ci]? = some (C, T, N) ∧ (Cond.castable C "SpeaksInTurn$Row" ∈ lw_tbl ∨ C = "SpeaksInTurn$Row") := by
  intro ci hci
  simp only [List.mem_cons, List.not_mem_nil, or_false] at hci
  rcases hci with rfl | rfl | rfl | rfl | rfl
  · exact ⟨_, _, _, lk_15, Or.inl q2302⟩
  · exact ⟨_, _, _, lk_16, Or.inl q2305⟩
  · exact ⟨_, _, _, lk_17, Or.inl q2303⟩
  · exact ⟨_, _, _, lk_18, Or.inl q2304⟩
  · exact ⟨_, _, _, lk_19, Or.inl q2301⟩
theorem hbd_Row : ∀ ci ∈ ([20, 21, 22, 23, 24, 25, 26, 27] : List Nat), ∃ (C : String) (T : u_T) (N : Nat), lk_cl[ci]? = some (C, T, N) ∧ (C, "SpeaksInTurn$Row") ∈ ncl ∧ packageOf C = "" ∧ C.toList.length ≤ 24 := by
  intro ci hci
  simp only [List.mem_cons, List.not_mem_nil, or_false] at hci
  rcases hci with rfl | rfl | rfl | rfl | rfl | rfl | rfl | rfl
  · exact ⟨_, _, _, lk_20, List.mem_of_getElem? (i := 43) rfl, by decide +kernel, by decide +kernel⟩
  · exact ⟨_, _, _, lk_21, List.mem_of_getElem? (i := 36) rfl, by decide +kernel, by decide +kernel⟩
  · exact ⟨_, _, _, lk_22, List.mem_of_getElem? (i := 37) rfl, by decide +kernel, by decide +kernel⟩
  · exact ⟨_, _, _, lk_23, List.mem_of_getElem? (i := 38) rfl, by decide +kernel, by decide +kernel⟩
  · exact ⟨_, _, _, lk_24, List.mem_of_getElem? (i := 39) rfl, by decide +kernel, by decide +kernel⟩
  · exact ⟨_, _, _, lk_25, List.mem_of_getElem? (i := 40) rfl, by decide +kernel, by decide +kernel⟩
  · exact ⟨_, _, _, lk_26, List.mem_of_getElem? (i := 41) rfl, by decide +kernel, by decide +kernel⟩
  · exact ⟨_, _, _, lk_27, List.mem_of_getElem? (i := 42) rfl, by decide +kernel, by decide +kernel⟩
theorem cc_Row : packageOf "SpeaksInTurn$Row" = "" ∧ "SpeaksInTurn$Row".toList.length ≤ 24 := by decide +kernel
theorem hcs_Plain : ∀ ci ∈ ([20, 21, 22, 23, 24, 25, 26, 27] : List Nat), ∃ (C : String) (T : u_T) (N : Nat), lk_cl[ci]? = some (C, T, N) ∧ (Cond.castable C "SpeaksInTurn$Plain" ∈ lw_tbl ∨ C = "SpeaksInTurn$Plain") := by
  intro ci hci
  simp only [List.mem_cons, List.not_mem_nil, or_false] at hci
  rcases hci with rfl | rfl | rfl | rfl | rfl | rfl | rfl | rfl
  · exact ⟨_, _, _, lk_20, Or.inr rfl⟩
  · exact ⟨_, _, _, lk_21, Or.inl q2308⟩
  · exact ⟨_, _, _, lk_22, Or.inl q2309⟩
  · exact ⟨_, _, _, lk_23, Or.inl q2306⟩
  · exact ⟨_, _, _, lk_24, Or.inl q2310⟩
  · exact ⟨_, _, _, lk_25, Or.inl q2311⟩
  · exact ⟨_, _, _, lk_26, Or.inl q2307⟩
  · exact ⟨_, _, _, lk_27, Or.inl q2312⟩
theorem hbd_Plain : ∀ ci ∈ ([15, 16, 17, 18, 19] : List Nat), ∃ (C : String) (T : u_T) (N : Nat), lk_cl[ci]? = some (C, T, N) ∧ (C, "SpeaksInTurn$Plain") ∈ ncl ∧ packageOf C = "" ∧ C.toList.length ≤ 24 := by
  intro ci hci
  simp only [List.mem_cons, List.not_mem_nil, or_false] at hci
  rcases hci with rfl | rfl | rfl | rfl | rfl
  · exact ⟨_, _, _, lk_15, List.mem_of_getElem? (i := 80) rfl, by decide +kernel, by decide +kernel⟩
  · exact ⟨_, _, _, lk_16, List.mem_of_getElem? (i := 81) rfl, by decide +kernel, by decide +kernel⟩
  · exact ⟨_, _, _, lk_17, List.mem_of_getElem? (i := 82) rfl, by decide +kernel, by decide +kernel⟩
  · exact ⟨_, _, _, lk_18, List.mem_of_getElem? (i := 83) rfl, by decide +kernel, by decide +kernel⟩
  · exact ⟨_, _, _, lk_19, List.mem_of_getElem? (i := 84) rfl, by decide +kernel, by decide +kernel⟩
theorem cc_Plain : packageOf "SpeaksInTurn$Plain" = "" ∧ "SpeaksInTurn$Plain".toList.length ≤ 24 := by decide +kernel
theorem hcs_ByteRow : ∀ ci ∈ ([15] : List Nat), ∃ (C : String) (T : u_T) (N : Nat), lk_cl[ci]? = some (C, T, N) ∧ (Cond.castable C "SpeaksInTurn$ByteRow" ∈ lw_tbl ∨ C = "SpeaksInTurn$ByteRow") := by
  intro ci hci
  simp only [List.mem_cons, List.not_mem_nil, or_false] at hci
  rcases hci with rfl
  · exact ⟨_, _, _, lk_15, Or.inr rfl⟩
theorem hbd_ByteRow : ∀ ci ∈ ([16, 17, 18, 19, 20, 21, 22, 23, 24, 25, 26, 27] : List Nat), ∃ (C : String) (T : u_T) (N : Nat), lk_cl[ci]? = some (C, T, N) ∧ (C, "SpeaksInTurn$ByteRow") ∈ ncl ∧ packageOf C = "" ∧ C.toList.length ≤ 24 := by
  intro ci hci
  simp only [List.mem_cons, List.not_mem_nil, or_false] at hci
  rcases hci with rfl | rfl | rfl | rfl | rfl | rfl | rfl | rfl | rfl | rfl | rfl | rfl
  · exact ⟨_, _, _, lk_16, List.mem_of_getElem? (i := 32) rfl, by decide +kernel, by decide +kernel⟩
  · exact ⟨_, _, _, lk_17, List.mem_of_getElem? (i := 33) rfl, by decide +kernel, by decide +kernel⟩
  · exact ⟨_, _, _, lk_18, List.mem_of_getElem? (i := 34) rfl, by decide +kernel, by decide +kernel⟩
  · exact ⟨_, _, _, lk_19, List.mem_of_getElem? (i := 35) rfl, by decide +kernel, by decide +kernel⟩
  · exact ⟨_, _, _, lk_20, List.mem_of_getElem? (i := 31) rfl, by decide +kernel, by decide +kernel⟩
  · exact ⟨_, _, _, lk_21, List.mem_of_getElem? (i := 24) rfl, by decide +kernel, by decide +kernel⟩
  · exact ⟨_, _, _, lk_22, List.mem_of_getElem? (i := 25) rfl, by decide +kernel, by decide +kernel⟩
  · exact ⟨_, _, _, lk_23, List.mem_of_getElem? (i := 26) rfl, by decide +kernel, by decide +kernel⟩
  · exact ⟨_, _, _, lk_24, List.mem_of_getElem? (i := 27) rfl, by decide +kernel, by decide +kernel⟩
  · exact ⟨_, _, _, lk_25, List.mem_of_getElem? (i := 28) rfl, by decide +kernel, by decide +kernel⟩
  · exact ⟨_, _, _, lk_26, List.mem_of_getElem? (i := 29) rfl, by decide +kernel, by decide +kernel⟩
  · exact ⟨_, _, _, lk_27, List.mem_of_getElem? (i := 30) rfl, by decide +kernel, by decide +kernel⟩
theorem cc_ByteRow : packageOf "SpeaksInTurn$ByteRow" = "" ∧ "SpeaksInTurn$ByteRow".toList.length ≤ 24 := by decide +kernel
theorem hcs_ShortRow : ∀ ci ∈ ([16] : List Nat), ∃ (C : String) (T : u_T) (N : Nat), lk_cl[ci]? = some (C, T, N) ∧ (Cond.castable C "SpeaksInTurn$ShortRow" ∈ lw_tbl ∨ C = "SpeaksInTurn$ShortRow") := by
  intro ci hci
  simp only [List.mem_cons, List.not_mem_nil, or_false] at hci
  rcases hci with rfl
  · exact ⟨_, _, _, lk_16, Or.inr rfl⟩
theorem hbd_ShortRow : ∀ ci ∈ ([15, 17, 18, 19, 20, 21, 22, 23, 24, 25, 26, 27] : List Nat), ∃ (C : String) (T : u_T) (N : Nat), lk_cl[ci]? = some (C, T, N) ∧ (C, "SpeaksInTurn$ShortRow") ∈ ncl ∧ packageOf C = "" ∧ C.toList.length ≤ 24 := by
  intro ci hci
  simp only [List.mem_cons, List.not_mem_nil, or_false] at hci
  rcases hci with rfl | rfl | rfl | rfl | rfl | rfl | rfl | rfl | rfl | rfl | rfl | rfl
  · exact ⟨_, _, _, lk_15, List.mem_of_getElem? (i := 20) rfl, by decide +kernel, by decide +kernel⟩
  · exact ⟨_, _, _, lk_17, List.mem_of_getElem? (i := 21) rfl, by decide +kernel, by decide +kernel⟩
  · exact ⟨_, _, _, lk_18, List.mem_of_getElem? (i := 22) rfl, by decide +kernel, by decide +kernel⟩
  · exact ⟨_, _, _, lk_19, List.mem_of_getElem? (i := 23) rfl, by decide +kernel, by decide +kernel⟩
  · exact ⟨_, _, _, lk_20, List.mem_of_getElem? (i := 19) rfl, by decide +kernel, by decide +kernel⟩
  · exact ⟨_, _, _, lk_21, List.mem_of_getElem? (i := 12) rfl, by decide +kernel, by decide +kernel⟩
  · exact ⟨_, _, _, lk_22, List.mem_of_getElem? (i := 13) rfl, by decide +kernel, by decide +kernel⟩
  · exact ⟨_, _, _, lk_23, List.mem_of_getElem? (i := 14) rfl, by decide +kernel, by decide +kernel⟩
  · exact ⟨_, _, _, lk_24, List.mem_of_getElem? (i := 15) rfl, by decide +kernel, by decide +kernel⟩
  · exact ⟨_, _, _, lk_25, List.mem_of_getElem? (i := 16) rfl, by decide +kernel, by decide +kernel⟩
  · exact ⟨_, _, _, lk_26, List.mem_of_getElem? (i := 17) rfl, by decide +kernel, by decide +kernel⟩
  · exact ⟨_, _, _, lk_27, List.mem_of_getElem? (i := 18) rfl, by decide +kernel, by decide +kernel⟩
theorem cc_ShortRow : packageOf "SpeaksInTurn$ShortRow" = "" ∧ "SpeaksInTurn$ShortRow".toList.length ≤ 24 := by decide +kernel
theorem hcs_IntRow : ∀ ci ∈ ([17] : List Nat), ∃ (C : String) (T : u_T) (N : Nat), lk_cl[ci]? = some (C, T, N) ∧ (Cond.castable C "SpeaksInTurn$IntRow" ∈ lw_tbl ∨ C = "SpeaksInTurn$IntRow") := by
  intro ci hci
  simp only [List.mem_cons, List.not_mem_nil, or_false] at hci
  rcases hci with rfl
  · exact ⟨_, _, _, lk_17, Or.inr rfl⟩
theorem hbd_IntRow : ∀ ci ∈ ([15, 16, 18, 19, 20, 21, 22, 23, 24, 25, 26, 27] : List Nat), ∃ (C : String) (T : u_T) (N : Nat), lk_cl[ci]? = some (C, T, N) ∧ (C, "SpeaksInTurn$IntRow") ∈ ncl ∧ packageOf C = "" ∧ C.toList.length ≤ 24 := by
  intro ci hci
  simp only [List.mem_cons, List.not_mem_nil, or_false] at hci
  rcases hci with rfl | rfl | rfl | rfl | rfl | rfl | rfl | rfl | rfl | rfl | rfl | rfl
  · exact ⟨_, _, _, lk_15, List.mem_of_getElem? (i := 64) rfl, by decide +kernel, by decide +kernel⟩
  · exact ⟨_, _, _, lk_16, List.mem_of_getElem? (i := 65) rfl, by decide +kernel, by decide +kernel⟩
  · exact ⟨_, _, _, lk_18, List.mem_of_getElem? (i := 66) rfl, by decide +kernel, by decide +kernel⟩
  · exact ⟨_, _, _, lk_19, List.mem_of_getElem? (i := 67) rfl, by decide +kernel, by decide +kernel⟩
  · exact ⟨_, _, _, lk_20, List.mem_of_getElem? (i := 63) rfl, by decide +kernel, by decide +kernel⟩
  · exact ⟨_, _, _, lk_21, List.mem_of_getElem? (i := 56) rfl, by decide +kernel, by decide +kernel⟩
  · exact ⟨_, _, _, lk_22, List.mem_of_getElem? (i := 57) rfl, by decide +kernel, by decide +kernel⟩
  · exact ⟨_, _, _, lk_23, List.mem_of_getElem? (i := 58) rfl, by decide +kernel, by decide +kernel⟩
  · exact ⟨_, _, _, lk_24, List.mem_of_getElem? (i := 59) rfl, by decide +kernel, by decide +kernel⟩
  · exact ⟨_, _, _, lk_25, List.mem_of_getElem? (i := 60) rfl, by decide +kernel, by decide +kernel⟩
  · exact ⟨_, _, _, lk_26, List.mem_of_getElem? (i := 61) rfl, by decide +kernel, by decide +kernel⟩
  · exact ⟨_, _, _, lk_27, List.mem_of_getElem? (i := 62) rfl, by decide +kernel, by decide +kernel⟩
theorem cc_IntRow : packageOf "SpeaksInTurn$IntRow" = "" ∧ "SpeaksInTurn$IntRow".toList.length ≤ 24 := by decide +kernel
theorem hcs_LongRow : ∀ ci ∈ ([18] : List Nat), ∃ (C : String) (T : u_T) (N : Nat), lk_cl[ci]? = some (C, T, N) ∧ (Cond.castable C "SpeaksInTurn$LongRow" ∈ lw_tbl ∨ C = "SpeaksInTurn$LongRow") := by
  intro ci hci
  simp only [List.mem_cons, List.not_mem_nil, or_false] at hci
  rcases hci with rfl
  · exact ⟨_, _, _, lk_18, Or.inr rfl⟩
theorem hbd_LongRow : ∀ ci ∈ ([15, 16, 17, 19, 20, 21, 22, 23, 24, 25, 26, 27] : List Nat), ∃ (C : String) (T : u_T) (N : Nat), lk_cl[ci]? = some (C, T, N) ∧ (C, "SpeaksInTurn$LongRow") ∈ ncl ∧ packageOf C = "" ∧ C.toList.length ≤ 24 := by
  intro ci hci
  simp only [List.mem_cons, List.not_mem_nil, or_false] at hci
  rcases hci with rfl | rfl | rfl | rfl | rfl | rfl | rfl | rfl | rfl | rfl | rfl | rfl
  · exact ⟨_, _, _, lk_15, List.mem_of_getElem? (i := 76) rfl, by decide +kernel, by decide +kernel⟩
  · exact ⟨_, _, _, lk_16, List.mem_of_getElem? (i := 77) rfl, by decide +kernel, by decide +kernel⟩
  · exact ⟨_, _, _, lk_17, List.mem_of_getElem? (i := 78) rfl, by decide +kernel, by decide +kernel⟩
  · exact ⟨_, _, _, lk_19, List.mem_of_getElem? (i := 79) rfl, by decide +kernel, by decide +kernel⟩
  · exact ⟨_, _, _, lk_20, List.mem_of_getElem? (i := 75) rfl, by decide +kernel, by decide +kernel⟩
  · exact ⟨_, _, _, lk_21, List.mem_of_getElem? (i := 68) rfl, by decide +kernel, by decide +kernel⟩
  · exact ⟨_, _, _, lk_22, List.mem_of_getElem? (i := 69) rfl, by decide +kernel, by decide +kernel⟩
  · exact ⟨_, _, _, lk_23, List.mem_of_getElem? (i := 70) rfl, by decide +kernel, by decide +kernel⟩
  · exact ⟨_, _, _, lk_24, List.mem_of_getElem? (i := 71) rfl, by decide +kernel, by decide +kernel⟩
  · exact ⟨_, _, _, lk_25, List.mem_of_getElem? (i := 72) rfl, by decide +kernel, by decide +kernel⟩
  · exact ⟨_, _, _, lk_26, List.mem_of_getElem? (i := 73) rfl, by decide +kernel, by decide +kernel⟩
  · exact ⟨_, _, _, lk_27, List.mem_of_getElem? (i := 74) rfl, by decide +kernel, by decide +kernel⟩
theorem cc_LongRow : packageOf "SpeaksInTurn$LongRow" = "" ∧ "SpeaksInTurn$LongRow".toList.length ≤ 24 := by decide +kernel
theorem hcs_BooleanRow : ∀ ci ∈ ([19] : List Nat), ∃ (C : String) (T : u_T) (N : Nat), lk_cl[ci]? = some (C, T, N) ∧ (Cond.castable C "SpeaksInTurn$BooleanRow" ∈ lw_tbl ∨ C = "SpeaksInTurn$BooleanRow") := by
  intro ci hci
  simp only [List.mem_cons, List.not_mem_nil, or_false] at hci
  rcases hci with rfl
  · exact ⟨_, _, _, lk_19, Or.inr rfl⟩
theorem hbd_BooleanRow : ∀ ci ∈ ([15, 16, 17, 18, 20, 21, 22, 23, 24, 25, 26, 27] : List Nat), ∃ (C : String) (T : u_T) (N : Nat), lk_cl[ci]? = some (C, T, N) ∧ (C, "SpeaksInTurn$BooleanRow") ∈ ncl ∧ packageOf C = "" ∧ C.toList.length ≤ 24 := by
  intro ci hci
  simp only [List.mem_cons, List.not_mem_nil, or_false] at hci
  rcases hci with rfl | rfl | rfl | rfl | rfl | rfl | rfl | rfl | rfl | rfl | rfl | rfl
  · exact ⟨_, _, _, lk_15, List.mem_of_getElem? (i := 52) rfl, by decide +kernel, by decide +kernel⟩
  · exact ⟨_, _, _, lk_16, List.mem_of_getElem? (i := 53) rfl, by decide +kernel, by decide +kernel⟩
  · exact ⟨_, _, _, lk_17, List.mem_of_getElem? (i := 54) rfl, by decide +kernel, by decide +kernel⟩
  · exact ⟨_, _, _, lk_18, List.mem_of_getElem? (i := 55) rfl, by decide +kernel, by decide +kernel⟩
  · exact ⟨_, _, _, lk_20, List.mem_of_getElem? (i := 51) rfl, by decide +kernel, by decide +kernel⟩
  · exact ⟨_, _, _, lk_21, List.mem_of_getElem? (i := 44) rfl, by decide +kernel, by decide +kernel⟩
  · exact ⟨_, _, _, lk_22, List.mem_of_getElem? (i := 45) rfl, by decide +kernel, by decide +kernel⟩
  · exact ⟨_, _, _, lk_23, List.mem_of_getElem? (i := 46) rfl, by decide +kernel, by decide +kernel⟩
  · exact ⟨_, _, _, lk_24, List.mem_of_getElem? (i := 47) rfl, by decide +kernel, by decide +kernel⟩
  · exact ⟨_, _, _, lk_25, List.mem_of_getElem? (i := 48) rfl, by decide +kernel, by decide +kernel⟩
  · exact ⟨_, _, _, lk_26, List.mem_of_getElem? (i := 49) rfl, by decide +kernel, by decide +kernel⟩
  · exact ⟨_, _, _, lk_27, List.mem_of_getElem? (i := 50) rfl, by decide +kernel, by decide +kernel⟩
theorem cc_BooleanRow : packageOf "SpeaksInTurn$BooleanRow" = "" ∧ "SpeaksInTurn$BooleanRow".toList.length ≤ 24 := by decide +kernel
abbrev yR_put : MethodName := ⟨"SpeaksInTurn$Row", "put", "(IJ)Z"⟩
theorem cdR_put : "SpeaksInTurn$Row" ≠ "java/lang/invoke/MethodHandle" ∧ "SpeaksInTurn$Row" ≠ "java/lang/invoke/VarHandle" ∧ (parseMethodDescriptor yR_put.desc).map (fun d => d.parameters.length) = some 2 := by decide +kernel
def rv_put (ks : Nat → ClassId) (σ : ST) (r : Option Nat) (i : Int32) (v : Int64) : Option (Int32 × ST) := bo2 (pcl σ r) fun (a c : Nat) => if c = 15 then r15_put ks σ a i v else if c = 16 then r16_put ks σ a i v else if c = 17 then r17_put ks σ a i v else if c = 18 then r18_put ks σ a i v else if c = 19 then r19_put ks σ a i v else none
def rv_put_T (ks : Nat → ClassId) (σ : ST) (r : Option Nat) (i : Int32) (v : Int64) : Option Unit := bo2 (pcl σ r) fun (a c : Nat) => if c = 15 then r15_put_T ks σ a i v else if c = 16 then r16_put_T ks σ a i v else if c = 17 then r17_put_T ks σ a i v else if c = 18 then r18_put_T ks σ a i v else if c = 19 then r19_put_T ks σ a i v else none
section RV
variable {p : Program} {l : Launch} {e : Env} {R : Room} {s : State} {m : MethodId} {args : Array Value} {below : List Frame} {meth : Method} {c : Code} {H : Heap} {locs : List Loc} {cells slots : Nat} {Q : State → Prop}
variable {cc : ByteArray} {pc nL : Nat} {ls : Array Slot} {rest : List Value} {own : String} {G : GT} {σ : ST}
theorem r_rv_put (X : CX G p m c cc nL s args own) (hP : PS cp_ft G s σ H locs) {r : Option Nat} {i : Int32} {v : Int64} {w : Int32} {u : ST} {index : Nat} (h : rv_put G.2.1 σ r i v = some (w, u)) (hlk : Cond.methodLink own index yR_put ∈ lw_all) (hf : 0 + 1 ≤ R.frames) (hlo : 23 ≤ R.locals) (hsize : ls.size = nL) (hW : (rest.map fun v => v.category).sum ≤ 8) (hdg : decode cc pc = .ok (.invokevirtual index, 3)) (hroom : cells + 0 ≤ R.cells ∧ slots + 0 ≤ R.slots)
    (kk : ∀ (H : Heap) (locs : List Loc), PS cp_ft G s u H locs → W p l e R s m args below meth c H locs cells slots Q (F0 m (pc + 3) ls (.int w :: rest))) : W p l e R s m args below meth c H locs cells slots Q (F0 m pc ls (.long v :: .int i :: va_rf r :: rest)) := by
  unfold rv_put at h
  obtain ⟨a, c0, e0, h9⟩ := bo2_ex h
  obtain ⟨rfl, hb⟩ := pcl_ex e0
  have hts := X.1.2.2.2.2
  by_cases c15 : c0 = 15
  · subst c15
    have h9 := it_t h9 rfl
    exact r_calli (r_runUP (As := [.int i, .long v]) (rest := rest) X hP hb lk_15 (mt_X26_put l G σ a i v h9) (va_cwA (owner := "SpeaksInTurn$Row") (x := yR_put) 2 hts (lw_U hlk q1507 q1511 q1512 q151 q1513) rfl rfl rfl (X.2.2.1 _ q1506 rfl) cdR_put ⟨Nat.le_trans (Nat.le_of_ble_eq_true rfl) hf, Nat.le_trans (Nat.le_of_ble_eq_true rfl) hlo⟩) rfl hsize rfl hW hdg hroom) hP kk
  have h9 := it_f h9 c15
  by_cases c16 : c0 = 16
  · subst c16
    have h9 := it_t h9 rfl
    exact r_calli (r_runUP (As := [.int i, .long v]) (rest := rest) X hP hb lk_16 (mt_X27_put l G σ a i v h9) (va_cwA (owner := "SpeaksInTurn$Row") (x := yR_put) 2 hts (lw_U hlk q1507 q1520 q1521 q152 q1522) rfl rfl rfl (X.2.2.1 _ q1506 rfl) cdR_put ⟨Nat.le_trans (Nat.le_of_ble_eq_true rfl) hf, Nat.le_trans (Nat.le_of_ble_eq_true rfl) hlo⟩) rfl hsize rfl hW hdg hroom) hP kk
  have h9 := it_f h9 c16
  by_cases c17 : c0 = 17
  · subst c17
    have h9 := it_t h9 rfl
    exact r_calli (r_runUP (As := [.int i, .long v]) (rest := rest) X hP hb lk_17 (mt_X28_put l G σ a i v h9) (va_cwA (owner := "SpeaksInTurn$Row") (x := yR_put) 2 hts (lw_U hlk q1507 q1514 q1515 q153 q1516) rfl rfl rfl (X.2.2.1 _ q1506 rfl) cdR_put ⟨Nat.le_trans (Nat.le_of_ble_eq_true rfl) hf, Nat.le_trans (Nat.le_of_ble_eq_true rfl) hlo⟩) rfl hsize rfl hW hdg hroom) hP kk
  have h9 := it_f h9 c17
  by_cases c18 : c0 = 18
  · subst c18
    have h9 := it_t h9 rfl
    exact r_calli (r_runUP (As := [.int i, .long v]) (rest := rest) X hP hb lk_18 (mt_X29_put l G σ a i v h9) (va_cwA (owner := "SpeaksInTurn$Row") (x := yR_put) 2 hts (lw_U hlk q1507 q1517 q1518 q154 q1519) rfl rfl rfl (X.2.2.1 _ q1506 rfl) cdR_put ⟨Nat.le_trans (Nat.le_of_ble_eq_true rfl) hf, Nat.le_trans (Nat.le_of_ble_eq_true rfl) hlo⟩) rfl hsize rfl hW hdg hroom) hP kk
  have h9 := it_f h9 c18
  by_cases c19 : c0 = 19
  · subst c19
    have h9 := it_t h9 rfl
    exact r_calli (r_runUP (As := [.int i, .long v]) (rest := rest) X hP hb lk_19 (mt_X30_put l G σ a i v h9) (va_cwA (owner := "SpeaksInTurn$Row") (x := yR_put) 2 hts (lw_U hlk q1507 q1508 q1509 q155 q1510) rfl rfl rfl (X.2.2.1 _ q1506 rfl) cdR_put ⟨Nat.le_trans (Nat.le_of_ble_eq_true rfl) hf, Nat.le_trans (Nat.le_of_ble_eq_true rfl) hlo⟩) rfl hsize rfl hW hdg hroom) hP kk
  have h9 := it_f h9 c19
  cases h9
theorem r_rvT_put (X : CX G p m c cc nL s args own) (hal : G.2.2.2.2 = true) (hlt : l.stackTraces = false) (hP : PS cp_ft G s σ H locs) {r : Option Nat} {i : Int32} {v : Int64} {index : Nat} (h : rv_put_T G.2.1 σ r i v = some ()) (hlk : Cond.methodLink own index yR_put ∈ lw_all) (hf : 9 + 1 ≤ R.frames) (hlo : 10325 ≤ R.locals) (hsize : ls.size = nL) (hW : (rest.map fun v => v.category).sum ≤ 8) (hdg : decode cc pc = .ok (.invokevirtual index, 3)) (hroom : cells + 3 ≤ R.cells ∧ slots + 1210 ≤ R.slots)
    (kk : ∀ (H1 : Heap) (locs1 : List Loc) (o : Addr) (ce : Cell), PS cp_ft G s (grw σ H1) H1 locs1 → H1[o]? = some ce → s.vm.findClass "java/lang/ArrayIndexOutOfBoundsException" = some ce.cls → ce.vm = .none → WT p l e R s m args below meth c H1 locs1 (cells + 3) (slots + 1210) Q o (F0 m pc ls rest)) : W p l e R s m args below meth c H locs cells slots Q (F0 m pc ls (.long v :: .int i :: va_rf r :: rest)) := by
  unfold rv_put_T at h
  obtain ⟨a, c0, e0, h9⟩ := bo2_ex h
  obtain ⟨rfl, hb⟩ := pcl_ex e0
  have hts := X.1.2.2.2.2
  by_cases c15 : c0 = 15
  · subst c15
    have h9 := it_t h9 rfl
    refine r_callT (As := [.int i, .long v]) (rest := rest) X hP hb lk_15 (mt_X26_put_T l G hal hlt σ a i v h9) (va_cwA (owner := "SpeaksInTurn$Row") (x := yR_put) 2 hts (lw_U hlk q1507 q1511 q1512 q151 q1513) rfl rfl rfl (X.2.2.1 _ q1506 rfl) cdR_put ⟨Nat.le_trans (Nat.le_of_ble_eq_true rfl) hf, Nat.le_trans (Nat.le_of_ble_eq_true rfl) hlo⟩) rfl hsize rfl hW hdg hroom (fun o1 st t H1 locs1 hst ht hW1 hq hL => ?_)
    obtain ⟨ce, hP1, hce, hv, hf1⟩ := hq.ps hst ht hW1 hP hL
    exact kk _ _ _ _ hP1 hce hf1 hv
  have h9 := it_f h9 c15
  by_cases c16 : c0 = 16
  · subst c16
    have h9 := it_t h9 rfl
    refine r_callT (As := [.int i, .long v]) (rest := rest) X hP hb lk_16 (mt_X27_put_T l G hal hlt σ a i v h9) (va_cwA (owner := "SpeaksInTurn$Row") (x := yR_put) 2 hts (lw_U hlk q1507 q1520 q1521 q152 q1522) rfl rfl rfl (X.2.2.1 _ q1506 rfl) cdR_put ⟨Nat.le_trans (Nat.le_of_ble_eq_true rfl) hf, Nat.le_trans (Nat.le_of_ble_eq_true rfl) hlo⟩) rfl hsize rfl hW hdg hroom (fun o1 st t H1 locs1 hst ht hW1 hq hL => ?_)
    obtain ⟨ce, hP1, hce, hv, hf1⟩ := hq.ps hst ht hW1 hP hL
    exact kk _ _ _ _ hP1 hce hf1 hv
  have h9 := it_f h9 c16
  by_cases c17 : c0 = 17
  · subst c17
    have h9 := it_t h9 rfl
    refine r_callT (As := [.int i, .long v]) (rest := rest) X hP hb lk_17 (mt_X28_put_T l G hal hlt σ a i v h9) (va_cwA (owner := "SpeaksInTurn$Row") (x := yR_put) 2 hts (lw_U hlk q1507 q1514 q1515 q153 q1516) rfl rfl rfl (X.2.2.1 _ q1506 rfl) cdR_put ⟨Nat.le_trans (Nat.le_of_ble_eq_true rfl) hf, Nat.le_trans (Nat.le_of_ble_eq_true rfl) hlo⟩) rfl hsize rfl hW hdg hroom (fun o1 st t H1 locs1 hst ht hW1 hq hL => ?_)
    obtain ⟨ce, hP1, hce, hv, hf1⟩ := hq.ps hst ht hW1 hP hL
    exact kk _ _ _ _ hP1 hce hf1 hv
  have h9 := it_f h9 c17
  by_cases c18 : c0 = 18
  · subst c18
    have h9 := it_t h9 rfl
    refine r_callT (As := [.int i, .long v]) (rest := rest) X hP hb lk_18 (mt_X29_put_T l G hal hlt σ a i v h9) (va_cwA (owner := "SpeaksInTurn$Row") (x := yR_put) 2 hts (lw_U hlk q1507 q1517 q1518 q154 q1519) rfl rfl rfl (X.2.2.1 _ q1506 rfl) cdR_put ⟨Nat.le_trans (Nat.le_of_ble_eq_true rfl) hf, Nat.le_trans (Nat.le_of_ble_eq_true rfl) hlo⟩) rfl hsize rfl hW hdg hroom (fun o1 st t H1 locs1 hst ht hW1 hq hL => ?_)
    obtain ⟨ce, hP1, hce, hv, hf1⟩ := hq.ps hst ht hW1 hP hL
    exact kk _ _ _ _ hP1 hce hf1 hv
  have h9 := it_f h9 c18
  by_cases c19 : c0 = 19
  · subst c19
    have h9 := it_t h9 rfl
    refine r_callT (As := [.int i, .long v]) (rest := rest) X hP hb lk_19 (mt_X30_put_T l G hal hlt σ a i v h9) (va_cwA (owner := "SpeaksInTurn$Row") (x := yR_put) 2 hts (lw_U hlk q1507 q1508 q1509 q155 q1510) rfl rfl rfl (X.2.2.1 _ q1506 rfl) cdR_put ⟨Nat.le_trans (Nat.le_of_ble_eq_true rfl) hf, Nat.le_trans (Nat.le_of_ble_eq_true rfl) hlo⟩) rfl hsize rfl hW hdg hroom (fun o1 st t H1 locs1 hst ht hW1 hq hL => ?_)
    obtain ⟨ce, hP1, hce, hv, hf1⟩ := hq.ps hst ht hW1 hP hL
    exact kk _ _ _ _ hP1 hce hf1 hv
  have h9 := it_f h9 c19
  cases h9
end RV
abbrev yR_at : MethodName := ⟨"SpeaksInTurn$Row", "at", "(I)J"⟩
theorem cdR_at : "SpeaksInTurn$Row" ≠ "java/lang/invoke/MethodHandle" ∧ "SpeaksInTurn$Row" ≠ "java/lang/invoke/VarHandle" ∧ (parseMethodDescriptor yR_at.desc).map (fun d => d.parameters.length) = some 1 := by decide +kernel
def rv_at (ks : Nat → ClassId) (σ : ST) (r : Option Nat) (i : Int32) : Option Int64 := bo2 (pcl σ r) fun (a c : Nat) => if c = 15 then r15_at ks σ a i else if c = 16 then r16_at ks σ a i else if c = 17 then r17_at ks σ a i else if c = 18 then r18_at ks σ a i else if c = 19 then r19_at ks σ a i else none
def rv_at_T (ks : Nat → ClassId) (σ : ST) (r : Option Nat) (i : Int32) : Option Unit := bo2 (pcl σ r) fun (a c : Nat) => if c = 15 then r15_at_T ks σ a i else if c = 16 then r16_at_T ks σ a i else if c = 17 then r17_at_T ks σ a i else if c = 18 then r18_at_T ks σ a i else if c = 19 then r19_at_T ks σ a i else none
section RV
variable {p : Program} {l : Launch} {e : Env} {R : Room} {s : State} {m : MethodId} {args : Array Value} {below : List Frame} {meth : Method} {c : Code} {H : Heap} {locs : List Loc} {cells slots : Nat} {Q : State → Prop}
variable {cc : ByteArray} {pc nL : Nat} {ls : Array Slot} {rest : List Value} {own : String} {G : GT} {σ : ST}
theorem r_rv_at (X : CX G p m c cc nL s args own) (hP : PS cp_ft G s σ H locs) {r : Option Nat} {i : Int32} {w : Int64} {index : Nat} (h : rv_at G.2.1 σ r i = some w) (hlk : Cond.methodLink own index yR_at ∈ lw_all) (hf : 0 + 1 ≤ R.frames) (hlo : 21 ≤ R.locals) (hsize : ls.size = nL) (hW : (rest.map fun v => v.category).sum ≤ 8) (hdg : decode cc pc = .ok (.invokevirtual index, 3)) (hroom : cells + 0 ≤ R.cells ∧ slots + 0 ≤ R.slots)
    (kk : ∀ (H : Heap) (locs : List Loc), PS cp_ft G s σ H locs → W p l e R s m args below meth c H locs cells slots Q (F0 m (pc + 3) ls (.long w :: rest))) : W p l e R s m args below meth c H locs cells slots Q (F0 m pc ls (.int i :: va_rf r :: rest)) := by
  unfold rv_at at h
  obtain ⟨a, c0, e0, h9⟩ := bo2_ex h
  obtain ⟨rfl, hb⟩ := pcl_ex e0
  have hts := X.1.2.2.2.2
  by_cases c15 : c0 = 15
  · subst c15
    have h9 := it_t h9 rfl
    exact r_calll (r_runUP (As := [.int i]) (rest := rest) X hP hb lk_15 (mt_X26_at l G σ a i h9) (va_cwA (owner := "SpeaksInTurn$Row") (x := yR_at) 1 hts (lw_U hlk q1530 q1534 q1151 q151 q1153) rfl rfl rfl (X.2.2.1 _ q1529 rfl) cdR_at ⟨Nat.le_trans (Nat.le_of_ble_eq_true rfl) hf, Nat.le_trans (Nat.le_of_ble_eq_true rfl) hlo⟩) rfl hsize rfl hW hdg hroom) hP kk
  have h9 := it_f h9 c15
  by_cases c16 : c0 = 16
  · subst c16
    have h9 := it_t h9 rfl
    exact r_calll (r_runUP (As := [.int i]) (rest := rest) X hP hb lk_16 (mt_X27_at l G σ a i h9) (va_cwA (owner := "SpeaksInTurn$Row") (x := yR_at) 1 hts (lw_U hlk q1530 q1541 q617 q152 q619) rfl rfl rfl (X.2.2.1 _ q1529 rfl) cdR_at ⟨Nat.le_trans (Nat.le_of_ble_eq_true rfl) hf, Nat.le_trans (Nat.le_of_ble_eq_true rfl) hlo⟩) rfl hsize rfl hW hdg hroom) hP kk
  have h9 := it_f h9 c16
  by_cases c17 : c0 = 17
  · subst c17
    have h9 := it_t h9 rfl
    exact r_calll (r_runUP (As := [.int i]) (rest := rest) X hP hb lk_17 (mt_X28_at l G σ a i h9) (va_cwA (owner := "SpeaksInTurn$Row") (x := yR_at) 1 hts (lw_U hlk q1530 q1535 q1536 q153 q1537) rfl rfl rfl (X.2.2.1 _ q1529 rfl) cdR_at ⟨Nat.le_trans (Nat.le_of_ble_eq_true rfl) hf, Nat.le_trans (Nat.le_of_ble_eq_true rfl) hlo⟩) rfl hsize rfl hW hdg hroom) hP kk
  have h9 := it_f h9 c17
  by_cases c18 : c0 = 18
  · subst c18
    have h9 := it_t h9 rfl
    exact r_calll (r_runUP (As := [.int i]) (rest := rest) X hP hb lk_18 (mt_X29_at l G σ a i h9) (va_cwA (owner := "SpeaksInTurn$Row") (x := yR_at) 1 hts (lw_U hlk q1530 q1538 q1539 q154 q1540) rfl rfl rfl (X.2.2.1 _ q1529 rfl) cdR_at ⟨Nat.le_trans (Nat.le_of_ble_eq_true rfl) hf, Nat.le_trans (Nat.le_of_ble_eq_true rfl) hlo⟩) rfl hsize rfl hW hdg hroom) hP kk
  have h9 := it_f h9 c18
  by_cases c19 : c0 = 19
  · subst c19
    have h9 := it_t h9 rfl
    exact r_calll (r_runUP (As := [.int i]) (rest := rest) X hP hb lk_19 (mt_X30_at l G σ a i h9) (va_cwA (owner := "SpeaksInTurn$Row") (x := yR_at) 1 hts (lw_U hlk q1530 q1531 q1532 q155 q1533) rfl rfl rfl (X.2.2.1 _ q1529 rfl) cdR_at ⟨Nat.le_trans (Nat.le_of_ble_eq_true rfl) hf, Nat.le_trans (Nat.le_of_ble_eq_true rfl) hlo⟩) rfl hsize rfl hW hdg hroom) hP kk
  have h9 := it_f h9 c19
  cases h9
theorem r_rvT_at (X : CX G p m c cc nL s args own) (hal : G.2.2.2.2 = true) (hlt : l.stackTraces = false) (hP : PS cp_ft G s σ H locs) {r : Option Nat} {i : Int32} {index : Nat} (h : rv_at_T G.2.1 σ r i = some ()) (hlk : Cond.methodLink own index yR_at ∈ lw_all) (hf : 9 + 1 ≤ R.frames) (hlo : 10325 ≤ R.locals) (hsize : ls.size = nL) (hW : (rest.map fun v => v.category).sum ≤ 8) (hdg : decode cc pc = .ok (.invokevirtual index, 3)) (hroom : cells + 3 ≤ R.cells ∧ slots + 1210 ≤ R.slots)
    (kk : ∀ (H1 : Heap) (locs1 : List Loc) (o : Addr) (ce : Cell), PS cp_ft G s (grw σ H1) H1 locs1 → H1[o]? = some ce → s.vm.findClass "java/lang/ArrayIndexOutOfBoundsException" = some ce.cls → ce.vm = .none → WT p l e R s m args below meth c H1 locs1 (cells + 3) (slots + 1210) Q o (F0 m pc ls rest)) : W p l e R s m args below meth c H locs cells slots Q (F0 m pc ls (.int i :: va_rf r :: rest)) := by
  unfold rv_at_T at h
  obtain ⟨a, c0, e0, h9⟩ := bo2_ex h
  obtain ⟨rfl, hb⟩ := pcl_ex e0
  have hts := X.1.2.2.2.2
  by_cases c15 : c0 = 15
  · subst c15
    have h9 := it_t h9 rfl
    refine r_callT (As := [.int i]) (rest := rest) X hP hb lk_15 (mt_X26_at_T l G hal hlt σ a i h9) (va_cwA (owner := "SpeaksInTurn$Row") (x := yR_at) 1 hts (lw_U hlk q1530 q1534 q1151 q151 q1153) rfl rfl rfl (X.2.2.1 _ q1529 rfl) cdR_at ⟨Nat.le_trans (Nat.le_of_ble_eq_true rfl) hf, Nat.le_trans (Nat.le_of_ble_eq_true rfl) hlo⟩) rfl hsize rfl hW hdg hroom (fun o1 st t H1 locs1 hst ht hW1 hq hL => ?_)
    obtain ⟨ce, hP1, hce, hv, hf1⟩ := hq.ps hst ht hW1 hP hL
    exact kk _ _ _ _ hP1 hce hf1 hv
  have h9 := it_f h9 c15
  by_cases c16 : c0 = 16
  · subst c16
    have h9 := it_t h9 rfl
    refine r_callT (As := [.int i]) (rest := rest) X hP hb lk_16 (mt_X27_at_T l G hal hlt σ a i h9) (va_cwA (owner := "SpeaksInTurn$Row") (x := yR_at) 1 hts (lw_U hlk q1530 q1541 q617 q152 q619) rfl rfl rfl (X.2.2.1 _ q1529 rfl) cdR_at ⟨Nat.le_trans (Nat.le_of_ble_eq_true rfl) hf, Nat.le_trans (Nat.le_of_ble_eq_true rfl) hlo⟩) rfl hsize rfl hW hdg hroom (fun o1 st t H1 locs1 hst ht hW1 hq hL => ?_)
    obtain ⟨ce, hP1, hce, hv, hf1⟩ := hq.ps hst ht hW1 hP hL
    exact kk _ _ _ _ hP1 hce hf1 hv
  have h9 := it_f h9 c16
  by_cases c17 : c0 = 17
  · subst c17
    have h9 := it_t h9 rfl
    refine r_callT (As := [.int i]) (rest := rest) X hP hb lk_17 (mt_X28_at_T l G hal hlt σ a i h9) (va_cwA (owner := "SpeaksInTurn$Row") (x := yR_at) 1 hts (lw_U hlk q1530 q1535 q1536 q153 q1537) rfl rfl rfl (X.2.2.1 _ q1529 rfl) cdR_at ⟨Nat.le_trans (Nat.le_of_ble_eq_true rfl) hf, Nat.le_trans (Nat.le_of_ble_eq_true rfl) hlo⟩) rfl hsize rfl hW hdg hroom (fun o1 st t H1 locs1 hst ht hW1 hq hL => ?_)
    obtain ⟨ce, hP1, hce, hv, hf1⟩ := hq.ps hst ht hW1 hP hL
    exact kk _ _ _ _ hP1 hce hf1 hv
  have h9 := it_f h9 c17
  by_cases c18 : c0 = 18
  · subst c18
    have h9 := it_t h9 rfl
    refine r_callT (As := [.int i]) (rest := rest) X hP hb lk_18 (mt_X29_at_T l G hal hlt σ a i h9) (va_cwA (owner := "SpeaksInTurn$Row") (x := yR_at) 1 hts (lw_U hlk q1530 q1538 q1539 q154 q1540) rfl rfl rfl (X.2.2.1 _ q1529 rfl) cdR_at ⟨Nat.le_trans (Nat.le_of_ble_eq_true rfl) hf, Nat.le_trans (Nat.le_of_ble_eq_true rfl) hlo⟩) rfl hsize rfl hW hdg hroom (fun o1 st t H1 locs1 hst ht hW1 hq hL => ?_)
    obtain ⟨ce, hP1, hce, hv, hf1⟩ := hq.ps hst ht hW1 hP hL
    exact kk _ _ _ _ hP1 hce hf1 hv
  have h9 := it_f h9 c18
  by_cases c19 : c0 = 19
  · subst c19
    have h9 := it_t h9 rfl
    refine r_callT (As := [.int i]) (rest := rest) X hP hb lk_19 (mt_X30_at_T l G hal hlt σ a i h9) (va_cwA (owner := "SpeaksInTurn$Row") (x := yR_at) 1 hts (lw_U hlk q1530 q1531 q1532 q155 q1533) rfl rfl rfl (X.2.2.1 _ q1529 rfl) cdR_at ⟨Nat.le_trans (Nat.le_of_ble_eq_true rfl) hf, Nat.le_trans (Nat.le_of_ble_eq_true rfl) hlo⟩) rfl hsize rfl hW hdg hroom (fun o1 st t H1 locs1 hst ht hW1 hq hL => ?_)
    obtain ⟨ce, hP1, hce, hv, hf1⟩ := hq.ps hst ht hW1 hP hL
    exact kk _ _ _ _ hP1 hce hf1 hv
  have h9 := it_f h9 c19
  cases h9
end RV
def pv_kind (σ : ST) (r : Option Nat) : Option Int32 := bo2 (pcl σ r) fun (a c : Nat) => if c = 20 then pl20_X17_kind σ a else if c = 21 then pl21_X18_kind σ a else if c = 22 then pl22_X19_kind σ a else if c = 23 then pl23_X20_kind σ a else if c = 24 then pl24_X21_kind σ a else if c = 25 then pl25_X22_kind σ a else if c = 26 then pl26_X23_kind σ a else if c = 27 then pl27_X24_kind σ a else none
section PVK
variable {p : Program} {l : Launch} {e : Env} {R : Room} {s : State} {m : MethodId} {args : Array Value} {below : List Frame} {meth : Method} {c : Code} {H : Heap} {locs : List Loc} {cells slots : Nat} {Q : State → Prop}
variable {cc : ByteArray} {pc nL : Nat} {ls : Array Slot} {rest : List Value} {own : String} {G : GT} {σ : ST}
theorem r_pv_kind (X : CX G p m c cc nL s args own) (hP : PS cp_ft G s σ H locs) {r : Option Nat} {v : Int32} {index : Nat} (h : pv_kind σ r = some v) (hlk : Cond.methodLink own index yX17_kind ∈ lw_all) (hf : 0 + 1 ≤ R.frames) (hlo : 20 ≤ R.locals) (hsize : ls.size = nL) (hW : (rest.map fun v => v.category).sum ≤ 8) (hdg : decode cc pc = .ok (.invokevirtual index, 3)) (hroom : cells + 0 ≤ R.cells ∧ slots + 0 ≤ R.slots)
    (kk : ∀ (H : Heap) (locs : List Loc), PS cp_ft G s σ H locs → W p l e R s m args below meth c H locs cells slots Q (F0 m (pc + 3) ls (.int v :: rest))) : W p l e R s m args below meth c H locs cells slots Q (F0 m pc ls (va_rf r :: rest)) := by
  unfold pv_kind at h
  obtain ⟨a, c0, e0, h9⟩ := bo2_ex h
  obtain ⟨rfl, hb⟩ := pcl_ex e0
  have hts := X.1.2.2.2.2
  by_cases c20 : c0 = 20
  · subst c20
    have h9 := it_t h9 rfl
    exact r_calli (r_runUP (As := []) (rest := rest) X hP hb lk_20 (mt_X17_kind__20 l G σ a h9) (va_cwO (owner := "SpeaksInTurn$Plain") (x := yX17_kind) 0 hts (lw_O hlk q1604 q1602 q1603 q1602 q141 q1626) rfl rfl rfl q1626 cdX17_kind ⟨Nat.le_trans (Nat.le_of_ble_eq_true rfl) hf, Nat.le_trans (Nat.le_of_ble_eq_true rfl) hlo⟩) rfl hsize rfl hW hdg hroom) hP kk
  have h9 := it_f h9 c20
  by_cases c21 : c0 = 21
  · subst c21
    have h9 := it_t h9 rfl
    exact r_calli (r_runUP (As := []) (rest := rest) X hP hb lk_21 (mt_X18_kind__21 l G σ a h9) (va_cwO (owner := "SpeaksInTurn$Plain") (x := yX17_kind) 0 hts (lw_O hlk q1604 q1602 q1611 q1612 q142 q1613) rfl rfl rfl q1626 cdX17_kind ⟨Nat.le_trans (Nat.le_of_ble_eq_true rfl) hf, Nat.le_trans (Nat.le_of_ble_eq_true rfl) hlo⟩) rfl hsize rfl hW hdg hroom) hP kk
  have h9 := it_f h9 c21
  by_cases c22 : c0 = 22
  · subst c22
    have h9 := it_t h9 rfl
    exact r_calli (r_runUP (As := []) (rest := rest) X hP hb lk_22 (mt_X19_kind__22 l G σ a h9) (va_cwO (owner := "SpeaksInTurn$Plain") (x := yX17_kind) 0 hts (lw_O hlk q1604 q1602 q1614 q1615 q143 q1616) rfl rfl rfl q1626 cdX17_kind ⟨Nat.le_trans (Nat.le_of_ble_eq_true rfl) hf, Nat.le_trans (Nat.le_of_ble_eq_true rfl) hlo⟩) rfl hsize rfl hW hdg hroom) hP kk
  have h9 := it_f h9 c22
  by_cases c23 : c0 = 23
  · subst c23
    have h9 := it_t h9 rfl
    exact r_calli (r_runUP (As := []) (rest := rest) X hP hb lk_23 (mt_X20_kind__23 l G σ a h9) (va_cwO (owner := "SpeaksInTurn$Plain") (x := yX17_kind) 0 hts (lw_O hlk q1604 q1602 q1605 q1606 q144 q1607) rfl rfl rfl q1626 cdX17_kind ⟨Nat.le_trans (Nat.le_of_ble_eq_true rfl) hf, Nat.le_trans (Nat.le_of_ble_eq_true rfl) hlo⟩) rfl hsize rfl hW hdg hroom) hP kk
  have h9 := it_f h9 c23
  by_cases c24 : c0 = 24
  · subst c24
    have h9 := it_t h9 rfl
    exact r_calli (r_runUP (As := []) (rest := rest) X hP hb lk_24 (mt_X21_kind__24 l G σ a h9) (va_cwO (owner := "SpeaksInTurn$Plain") (x := yX17_kind) 0 hts (lw_O hlk q1604 q1602 q1617 q1618 q145 q1619) rfl rfl rfl q1626 cdX17_kind ⟨Nat.le_trans (Nat.le_of_ble_eq_true rfl) hf, Nat.le_trans (Nat.le_of_ble_eq_true rfl) hlo⟩) rfl hsize rfl hW hdg hroom) hP kk
  have h9 := it_f h9 c24
  by_cases c25 : c0 = 25
  · subst c25
    have h9 := it_t h9 rfl
    exact r_calli (r_runUP (As := []) (rest := rest) X hP hb lk_25 (mt_X22_kind__25 l G σ a h9) (va_cwO (owner := "SpeaksInTurn$Plain") (x := yX17_kind) 0 hts (lw_O hlk q1604 q1602 q1620 q1621 q146 q1622) rfl rfl rfl q1626 cdX17_kind ⟨Nat.le_trans (Nat.le_of_ble_eq_true rfl) hf, Nat.le_trans (Nat.le_of_ble_eq_true rfl) hlo⟩) rfl hsize rfl hW hdg hroom) hP kk
  have h9 := it_f h9 c25
  by_cases c26 : c0 = 26
  · subst c26
    have h9 := it_t h9 rfl
    exact r_calli (r_runUP (As := []) (rest := rest) X hP hb lk_26 (mt_X23_kind__26 l G σ a h9) (va_cwO (owner := "SpeaksInTurn$Plain") (x := yX17_kind) 0 hts (lw_O hlk q1604 q1602 q1608 q1609 q147 q1610) rfl rfl rfl q1626 cdX17_kind ⟨Nat.le_trans (Nat.le_of_ble_eq_true rfl) hf, Nat.le_trans (Nat.le_of_ble_eq_true rfl) hlo⟩) rfl hsize rfl hW hdg hroom) hP kk
  have h9 := it_f h9 c26
  by_cases c27 : c0 = 27
  · subst c27
    have h9 := it_t h9 rfl
    exact r_calli (r_runUP (As := []) (rest := rest) X hP hb lk_27 (mt_X24_kind__27 l G σ a h9) (va_cwO (owner := "SpeaksInTurn$Plain") (x := yX17_kind) 0 hts (lw_O hlk q1604 q1602 q1623 q1624 q148 q1625) rfl rfl rfl q1626 cdX17_kind ⟨Nat.le_trans (Nat.le_of_ble_eq_true rfl) hf, Nat.le_trans (Nat.le_of_ble_eq_true rfl) hlo⟩) rfl hsize rfl hW hdg hroom) hP kk
  have h9 := it_f h9 c27
  cases h9
end PVK
