/-! NODES: a call of Node.value goes to the method of the node's own class. -/
def pcl (σ : ST) (r : Option Nat) : Option (Nat × Nat) := match r with
  | none => none
  | some a => match σ.2.2.2.1 a with
    | some (.inr (c, _)) => some (a, c)
    | _ => none
theorem pcl_ex {σ : ST} {r : Option Nat} {a c : Nat} (h : pcl σ r = some (a, c)) : r = some a ∧ ∃ fs, σ.2.2.2.1 a = some (.inr (c, fs)) := by
  unfold pcl at h
  split at h
  · cases h
  · split at h
    · rename_i he
      cases h
      exact ⟨rfl, _, he⟩
    · cases h
/-- the node at r answers v: the method of its class does -/
def NOK (l : Launch) (G : GT) (f lo : Nat) (σ : ST) (r : Option Nat) (v : Int32) : Prop := ∃ a : Nat, r = some a ∧
  (((∃ fs, σ.2.2.2.1 a = some (.inr (12, fs))) ∧ CI l cp_ft G yX13_value (ws_ yX13_value cX13_value 2 (some .int)) (rmf f lo) 0 0 [.ref a, .ref (G.2.2.1 13)] σ (v, σ)) ∨
  ((∃ fs, σ.2.2.2.1 a = some (.inr (9, fs))) ∧ CI l cp_ft G yX10_value (ws_ yX10_value cX10_value 2 (some .int)) (rmf f lo) 0 0 [.ref a, .ref (G.2.2.1 13)] σ (v, σ)) ∨
  ((∃ fs, σ.2.2.2.1 a = some (.inr (11, fs))) ∧ CI l cp_ft G yX12_value (ws_ yX12_value cX12_value 2 (some .int)) (rmf f lo) 0 0 [.ref a, .ref (G.2.2.1 13)] σ (v, σ)) ∨
  ((∃ fs, σ.2.2.2.1 a = some (.inr (10, fs))) ∧ CI l cp_ft G yX11_value (ws_ yX11_value cX11_value 2 (some .int)) (rmf f lo) 0 0 [.ref a, .ref (G.2.2.1 13)] σ (v, σ)) ∨
  ((∃ fs, σ.2.2.2.1 a = some (.inr (13, fs))) ∧ CI l cp_ft G yX14_value (ws_ yX14_value cX14_value 4 (some .int)) (rmf f lo) 0 0 [.ref a, .ref (G.2.2.1 13)] σ (v, σ)))
abbrev yNode : MethodName := ⟨"SpeaksInTurn$Node", "value", "(LSpeaksInTurn$Facts;)I"⟩
theorem cdNode : "SpeaksInTurn$Node" ≠ "java/lang/invoke/MethodHandle" ∧ "SpeaksInTurn$Node" ≠ "java/lang/invoke/VarHandle" ∧ (parseMethodDescriptor yNode.desc).map (fun d => d.parameters.length) = some 1 := by decide +kernel
theorem lw_U {own : String} {idx : Nat} {C owner : String} {x y : MethodName} {b : ByteArray} {L : Nat} {r : Option FieldType} (h1 : Cond.methodLink own idx x ∈ lw_all) (h2 : Cond.sameMethod x.cls owner x.name x.desc ∈ lw_all) (h3 : Cond.selects C x y ∈ lw_all) (h4 : Cond.instanceMethod y ∈ lw_all) (h5 : Cond.initialized y.cls ∈ lw_all) (h6 : Cond.code y b L r ∈ lw_all) : GoodIn lw_all (va_wsU own idx C owner x y (ws_ y b L r)) := by
  refine lw_app ?_ (lw_meth h6)
  intro w hw
  simp only [List.mem_cons, List.not_mem_nil, or_false] at hw
  rcases hw with e | e | e | e | e
  · rw [e]; exact h1
  · rw [e]; exact h2
  · rw [e]; exact h3
  · rw [e]; exact h4
  · rw [e]; exact h5
section NODE
variable {p : Program} {l : Launch} {e : Env} {R : Room} {s : State} {m : MethodId} {args : Array Value} {below : List Frame} {meth : Method} {c : Code} {H : Heap} {locs : List Loc} {cells slots : Nat} {Q : State → Prop}
variable {cc : ByteArray} {pc nL : Nat} {ls : Array Slot} {rest : List Value} {own : String} {G : GT} {σ : ST}
theorem r_callN1 (X : CX G p m c cc nL s args own) (hP : PS cp_ft G s σ H locs) {a ci f lo maxL index : Nat} {v : Int32} {C : String} {T : u_T} {N : Nat} {y : MethodName} {bytes : ByteArray} (hc : lk_cl[ci]? = some (C, T, N)) (hg : ∃ fs, σ.2.2.2.1 a = some (.inr (ci, fs))) (hM : CI l cp_ft G y (ws_ y bytes maxL (some .int)) (rmf f lo) 0 0 [.ref a, .ref (G.2.2.1 13)] σ (v, σ)) (hl : Cond.methodLink own index yNode ∈ lw_all) (hs : Cond.selects C yNode y ∈ lw_all) (hin : Cond.instanceMethod y ∈ lw_all) (hini : Cond.initialized y.cls ∈ lw_all) (hcd : Cond.code y bytes maxL (some .int) ∈ lw_all) (hf : f + 1 ≤ R.frames) (hlo : 8 + (maxL + 11) + lo ≤ R.locals) (hsize : ls.size = nL) (hW : (rest.map fun v => v.category).sum ≤ 8) (hdg : decode cc pc = .ok (.invokevirtual index, 3)) (hroom : cells + 0 ≤ R.cells ∧ slots + 0 ≤ R.slots)
    (kk : ∀ (H : Heap) (locs : List Loc), PS cp_ft G s σ H locs → W p l e R s m args below meth c H locs cells slots Q (F0 m (pc + 3) ls (.int v :: rest))) : W p l e R s m args below meth c H locs cells slots Q (F0 m pc ls (.ref (G.2.2.1 13) :: .ref a :: rest)) := by
  have hts := X.1.2.2.2.2
  obtain ⟨fs, hg⟩ := hg
  refine r_calli (va_runU (As := [.ref (G.2.2.1 13)]) (rest := rest) X.1 hM (va_cwA (owner := "SpeaksInTurn$Node") (x := yNode) 1 hts (lw_U hl q986 hs hin hini hcd) rfl rfl rfl (X.2.2.1 _ q985 rfl) cdNode ⟨hf, hlo⟩) ⟨PicU.blind, recv_pool X hP hg hc, (pre_call X hP _).2⟩ rfl rfl hsize rfl (lv_room hW) hdg hroom) hP kk
theorem r_callN (X : CX G p m c cc nL s args own) (hP : PS cp_ft G s σ H locs) {r : Option Nat} {f lo index : Nat} {v : Int32} (hN : NOK l G f lo σ r v) (hl : Cond.methodLink own index yNode ∈ lw_all) (hf : f + 1 ≤ R.frames) (hlo : 8 + (4 + 11) + lo ≤ R.locals) (hsize : ls.size = nL) (hW : (rest.map fun v => v.category).sum ≤ 8) (hdg : decode cc pc = .ok (.invokevirtual index, 3)) (hroom : cells + 0 ≤ R.cells ∧ slots + 0 ≤ R.slots)
    (kk : ∀ (H : Heap) (locs : List Loc), PS cp_ft G s σ H locs → W p l e R s m args below meth c H locs cells slots Q (F0 m (pc + 3) ls (.int v :: rest))) : W p l e R s m args below meth c H locs cells slots Q (F0 m pc ls (.ref (G.2.2.1 13) :: va_rf r :: rest)) := by
  obtain ⟨a, rfl, h | h | h | h | h⟩ := hN
  · exact r_callN1 X hP lk_12 h.1 h.2 hl q1004 q991 q136 q992 hf (by omega) hsize hW hdg hroom kk
  · exact r_callN1 X hP lk_9 h.1 h.2 hl q1005 q993 q133 q994 hf (by omega) hsize hW hdg hroom kk
  · exact r_callN1 X hP lk_11 h.1 h.2 hl q1007 q998 q135 q999 hf (by omega) hsize hW hdg hroom kk
  · exact r_callN1 X hP lk_10 h.1 h.2 hl q987 q988 q134 q989 hf (by omega) hsize hW hdg hroom kk
  · exact r_callN1 X hP lk_13 h.1 h.2 hl q1006 q995 q137 q996 hf (by omega) hsize hW hdg hroom kk
end NODE
