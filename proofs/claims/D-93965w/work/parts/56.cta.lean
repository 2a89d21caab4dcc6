/-! ARRAYS OF REFERENCES, made in the pool. -/
def aloq (σ : ST) (d : ClassId) (n : Nat) : ST := (σ.1, σ.2.1, σ.2.2.1, gset σ.2.2.2.1 (szo σ) (.inl (d, n, .inr (.inr (.inr (.inr (fun _ => none)))))), szo σ + 1, suo σ + n)
section CTA
variable {p : Program} {l : Launch} {e : Env} {R : Room} {s : State} {m : MethodId} {args : Array Value} {below : List Frame} {meth : Method} {c : Code} {H : Heap} {locs : List Loc} {cells slots : Nat} {Q : State → Prop}
variable {cc : ByteArray} {pc nL : Nat} {ls : Array Slot} {rest : List Value} {own : String} {ft : List FC} {G : GT} {σ : ST}
theorem r_naq (X : CX G p m c cc nL s args own) (hal : G.2.2.2.2 = true) (hP : PS ft G s σ H locs) (t : Nat) {C : String} (ht : (lk_tys G)[t]? = some (G.2.1 t, .object C)) {n : Int32} (hn : ¬ n < 0) (hbig : n.toNatClampNeg ≤ 400) {index : Nat} (hcl : Cond.classLink own index C ∈ lw_all) (hao : Cond.arrayOver (.object C) ∈ lw_tbl) (hcells : cells + 1 ≤ R.cells) (hslots : slots + n.toNatClampNeg ≤ R.slots) (hdg : decode cc pc = .ok (.anewarray index, 3))
    (kk : ∀ (σ1 : ST) (H : Heap), σ1 = aloq σ (G.2.1 t) n.toNatClampNeg → PS ft G s σ1 H locs → W p l e R s m args below meth c H locs (cells + 1) (slots + n.toNatClampNeg) Q (F0 m (pc + 3) ls (.ref (szo σ) :: rest))) : W p l e R s m args below meth c H locs cells slots Q (F0 m pc ls (.int n :: rest)) := by
  obtain ⟨⟨hx, hb, hml, hown, hts⟩, hK, hN, hEV⟩ := X
  have hsz := (hP.1.2.2.2 hal).1
  refine W.anew hx hb hown (hts _ hcl) (va_AO.use (hN _ hao rfl)) rfl hdg rfl hn (by omega) hcells hslots fun cA kA comp f1 f2 f3 f4 => ?_
  generalize hH1 : H.push ({ cls := cA, slots := Array.replicate n.toNatClampNeg .null, vm := .none } : Cell) = H1
  have z1 : H1.size = H.size + 1 := by rw [← hH1, Array.size_push]
  have e1 : H1[H.size]? = some (arrV cA n.toNatClampNeg (fun _ => .null)) := by rw [← hH1, Array.getElem?_push_size, ← arrV_new]
  have o1 : ∀ q : Nat, q < H.size → H1[q]? = H[q]? := fun q hq => by rw [← hH1, Array.getElem?_push, if_neg (Nat.ne_of_lt hq)]
  obtain ⟨k', c', a1, a2, a3, a4⟩ := (hK.2 t _ ht).2
  have hid : cA = G.2.1 t := Option.some.inj (f1.symm.trans a4)
  subst hid
  have hat : va_at G.1 lk_cl (szo σ, .inl (G.2.1 t, n.toNatClampNeg, .inr (.inr (.inr (.inr (fun _ => none)))))) H1 := by
    show H1[szo σ]? = some (vp_cell _ _)
    rw [← hsz, e1]
    rfl
  have key := kk _ H1 rfl ⟨hP.1.push hal hat z1 e1 (by rw [arrV_size]) o1, Nat.le_trans hP.2.1 (by omega), fun x g1 g2 => (o1 x (Nat.lt_of_lt_of_le g1 hP.2.1)).trans (hP.2.2.1 x g1 g2), hP.2.2.2⟩
  rw [hsz]
  exact key
end CTA
/-- cells laid one behind another into the pool, from n0 on -/
def gfill (g : Nat → Option va_E) (n0 : Nat) (L : List va_E) : Nat → Option va_E := fun b => if n0 ≤ b ∧ b < n0 + L.length then L[b - n0]? else g b
theorem gfill_nil (g : Nat → Option va_E) (n0 : Nat) : gfill g n0 [] = g := by
  funext b
  unfold gfill
  rw [if_neg (by simp only [List.length_nil]; omega)]
theorem gfill_push (g : Nat → Option va_E) (n0 n : Nat) (L : List va_E) (e : va_E) (h : n = n0 + L.length) : gset (gfill g n0 L) n e = gfill g n0 (L ++ [e]) := by
  subst h
  funext b
  unfold gset gfill
  by_cases h : b = n0 + L.length
  · subst h
    rw [if_pos rfl, if_pos (by simp only [List.length_append, List.length_cons, List.length_nil]; omega), List.getElem?_append_right (by omega)]
    rw [show n0 + L.length - n0 - L.length = 0 by omega]
    rfl
  · rw [if_neg h]
    by_cases h2 : n0 ≤ b ∧ b < n0 + L.length
    · rw [if_pos h2, if_pos (by simp only [List.length_append, List.length_cons, List.length_nil]; omega), List.getElem?_append_left (by omega)]
    · rw [if_neg h2, if_neg (by simp only [List.length_append, List.length_cons, List.length_nil]; omega)]
theorem gfill_set (g : Nat → Option va_E) (n0 n k : Nat) (L : List va_E) (e : va_E) (h : n = n0 + k) (hk : k < L.length) : gset (gfill g n0 L) n e = gfill g n0 (L.set k e) := by
  subst h
  funext b
  unfold gset gfill
  rw [List.length_set]
  by_cases h : b = n0 + k
  · subst h
    rw [if_pos rfl, if_pos (by omega), show n0 + k - n0 = k by omega, List.getElem?_set_self hk]
  · rw [if_neg h]
    by_cases h2 : n0 ≤ b ∧ b < n0 + L.length
    · rw [if_pos h2, if_pos h2, List.getElem?_set_ne (by omega)]
    · rw [if_neg h2, if_neg h2]
theorem gfill_at (g : Nat → Option va_E) (n0 n k : Nat) (L : List va_E) (h : n = n0 + k) (hk : k < L.length) : gfill g n0 L n = L[k]? := by
  subst h
  unfold gfill
  rw [if_pos (by omega), show n0 + k - n0 = k by omega]
