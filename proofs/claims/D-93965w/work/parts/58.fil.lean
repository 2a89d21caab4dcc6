/-! WHAT THE CONSTRUCTORS LEAVE: cells laid one behind another. -/
def fil (σ : ST) (n0 : Nat) (L : List va_E) (w : Nat) : ST := (σ.1, σ.2.1, σ.2.2.1, gfill σ.2.2.2.1 n0 L, n0 + L.length, w)
theorem fil_push {σ : ST} {n0 w n : Nat} {L : List va_E} {e : va_E} : ((σ.1, σ.2.1, σ.2.2.1, gset (gfill σ.2.2.2.1 n0 L) (n0 + L.length) e, n0 + L.length + 1, w + n) : ST) = fil σ n0 (L ++ [e]) (w + n) := by
  unfold fil
  rw [gfill_push _ _ _ _ _ rfl, List.length_append]
  rfl
theorem fil_aloi {σ : ST} {n0 w n : Nat} {L : List va_E} {d : ClassId} : aloi (fil σ n0 L w) d n = fil σ n0 (L ++ [.inl (d, n, .inl (fun _ => 0))]) (w + n) := fil_push (σ := σ) (n0 := n0) (w := w) (n := n) (L := L)
theorem fil_alol {σ : ST} {n0 w n : Nat} {L : List va_E} {d : ClassId} : alol (fil σ n0 L w) d n = fil σ n0 (L ++ [.inl (d, n, .inr (.inl (fun _ => 0)))]) (w + n) := fil_push (σ := σ) (n0 := n0) (w := w) (n := n) (L := L)
theorem fil_aloq {σ : ST} {n0 w n : Nat} {L : List va_E} {d : ClassId} : aloq (fil σ n0 L w) d n = fil σ n0 (L ++ [.inl (d, n, .inr (.inr (.inr (.inr (fun _ => none)))))]) (w + n) := fil_push (σ := σ) (n0 := n0) (w := w) (n := n) (L := L)
theorem fil_aloc {σ : ST} {n0 w n ci : Nat} {L : List va_E} {fs : List Value} : aloc (fil σ n0 L w) ci fs n = fil σ n0 (L ++ [.inr (ci, fs)]) (w + n) := fil_push (σ := σ) (n0 := n0) (w := w) (n := n) (L := L)
theorem fil_new {σ : ST} {ci n : Nat} {fs : List Value} : aloc σ ci fs n = fil σ (szo σ) [.inr (ci, fs)] (suo σ + n) := by
  unfold aloc fil
  rw [show [(Sum.inr (ci, fs) : va_E)] = [] ++ [.inr (ci, fs)] from rfl, ← gfill_push _ _ (szo σ) _ _ rfl, gfill_nil]
  rfl
theorem fil_g {σ : ST} {n0 w a : Nat} {L : List va_E} {e : va_E} (k : Nat) (ha : a = n0 + k) (hL : L[k]? = some e) : (fil σ n0 L w).2.2.2.1 a = some e := by
  show gfill σ.2.2.2.1 n0 L a = _
  rw [gfill_at _ _ _ k _ ha (List.getElem?_eq_some_iff.mp hL).1, hL]
theorem fil_set {σ : ST} {n0 w a : Nat} {L : List va_E} {e e2 : va_E} (k : Nat) (ha : a = n0 + k) (hL : L[k]? = some e) : setg (fil σ n0 L w) (gset (fil σ n0 L w).2.2.2.1 a e2) = fil σ n0 (L.set k e2) w := by
  unfold setg
  show ((σ.1, σ.2.1, σ.2.2.1, gset (gfill σ.2.2.2.1 n0 L) a e2, n0 + L.length, w) : ST) = _
  rw [gfill_set _ _ _ k _ _ ha (List.getElem?_eq_some_iff.mp hL).1]
  unfold fil
  rw [List.length_set]
theorem fil_ppv {σ : ST} {n0 w a ci f : Nat} {v : Value} {L : List va_E} {fs : List Value} (k : Nat) (ha : a = n0 + k) (hL : L[k]? = some (.inr (ci, fs))) (hf : f < fs.length) : ppv (fil σ n0 L w) (some a) ci f v = some (fil σ n0 (L.set k (.inr (ci, fs.set f v))) w) := by
  unfold ppv
  simp only [fil_g k ha hL]
  rw [if_pos ⟨trivial, hf⟩, fil_set k ha hL]
theorem fil_pgr {σ : ST} {n0 w a ci f b : Nat} {L : List va_E} {fs : List Value} (k : Nat) (ha : a = n0 + k) (hL : L[k]? = some (.inr (ci, fs))) (hf : fs[f]? = some (.ref b)) : pgr (fil σ n0 L w) (some a) ci f = some (some b) := by
  unfold pgr
  simp only [fil_g k ha hL, hf]
  rw [if_pos trivial]
theorem fil_psi {σ : ST} {n0 w a n : Nat} {d : ClassId} {i v : Int32} {L : List va_E} {g : Nat → Int32} (k : Nat) (ha : a = n0 + k) (hL : L[k]? = some (.inl (d, n, .inl g))) (hi : ¬ (i < 0 ∨ n ≤ i.toNatClampNeg)) : psi (fil σ n0 L w) (some a) d i v = some (fil σ n0 (L.set k (.inl (d, n, .inl (upd g i.toNatClampNeg v)))) w) := by
  unfold psi
  simp only [fil_g k ha hL]
  rw [if_pos ⟨trivial, hi⟩, fil_set k ha hL]
theorem bo_step {α β : Type} {x : Option α} {y : α} {k : α → Option β} {r : Option β} (h : x = some y) (h2 : k y = r) : bo x k = r := by
  rw [h]
  exact h2
theorem st_step {α β : Type} {x y : α} {k : α → Option β} {r : Option β} (h : x = y) (h2 : k y = r) : st_ x k = r := by
  rw [h]
  exact h2
theorem fil_ppv2 {σ : ST} {n0 w a ci f : Nat} {v : Value} {L : List va_E} {fs : List Value} (k : Nat) (v' : Value) (L' : List va_E) (ha : a = n0 + k) (hv : v = v') (hL : L[k]? = some (.inr (ci, fs))) (hf : f < fs.length) (h2 : L.set k (.inr (ci, fs.set f v')) = L') : ppv (fil σ n0 L w) (some a) ci f v = some (fil σ n0 L' w) := by
  subst hv
  subst h2
  exact fil_ppv k ha hL hf
theorem fil_aloi2 {σ : ST} {n0 w n : Nat} {L : List va_E} {d : ClassId} (L' : List va_E) (w' : Nat) (h2 : L ++ [.inl (d, n, .inl (fun _ => 0))] = L') (hw : w + n = w') : aloi (fil σ n0 L w) d n = fil σ n0 L' w' := by
  subst h2
  subst hw
  exact fil_aloi
theorem fil_alol2 {σ : ST} {n0 w n : Nat} {L : List va_E} {d : ClassId} (L' : List va_E) (w' : Nat) (h2 : L ++ [.inl (d, n, .inr (.inl (fun _ => 0)))] = L') (hw : w + n = w') : alol (fil σ n0 L w) d n = fil σ n0 L' w' := by
  subst h2
  subst hw
  exact fil_alol
theorem fil_aloq2 {σ : ST} {n0 w n : Nat} {L : List va_E} {d : ClassId} (L' : List va_E) (w' : Nat) (h2 : L ++ [.inl (d, n, .inr (.inr (.inr (.inr (fun _ => none)))))] = L') (hw : w + n = w') : aloq (fil σ n0 L w) d n = fil σ n0 L' w' := by
  subst h2
  subst hw
  exact fil_aloq
theorem fil_aloc2 {σ : ST} {n0 w n ci : Nat} {L : List va_E} {fs : List Value} (L' : List va_E) (w' : Nat) (h2 : L ++ [.inr (ci, fs)] = L') (hw : w + n = w') : aloc (fil σ n0 L w) ci fs n = fil σ n0 L' w' := by
  subst h2
  subst hw
  exact fil_aloc
theorem fil_psi2 {σ : ST} {n0 w a n : Nat} {d : ClassId} {i v : Int32} {L : List va_E} {g : Nat → Int32} (k : Nat) (L' : List va_E) (ha : a = n0 + k) (hL : L[k]? = some (.inl (d, n, .inl g))) (hi : ¬ (i < 0 ∨ n ≤ i.toNatClampNeg)) (h2 : L.set k (.inl (d, n, .inl (upd g i.toNatClampNeg v))) = L') : psi (fil σ n0 L w) (some a) d i v = some (fil σ n0 L' w) := by
  subst h2
  exact fil_psi k ha hL hi
def ea_i (ks : Nat → ClassId) (t n : Nat) : va_E := .inl (ks t, n, .inl (fun _ => 0))
def ea_l (ks : Nat → ClassId) (t n : Nat) : va_E := .inl (ks t, n, .inr (.inl (fun _ => 0)))
def ea_q (ks : Nat → ClassId) (t n : Nat) : va_E := .inl (ks t, n, .inr (.inr (.inr (.inr (fun _ => none)))))
