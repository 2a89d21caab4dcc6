/-! THE POOL: objects made in the run, by their addresses; references as Option Nat. -/
theorem rr_cat (r : Option Nat) : (va_rf r).category = 1 := by cases r <;> rfl
theorem rr_nar (C : String) (r : Option Nat) : narrow (.object C) (va_rf r) = va_rf r := by cases r <;> rfl
theorem rr_fit (C : String) (r : Option Nat) : fits (.object C) (va_rf r) = true := by cases r <;> rfl
def setg (σ : ST) (g : Nat → Option va_E) : ST := (σ.1, σ.2.1, σ.2.2.1, g, σ.2.2.2.2)
/-- an object of the class ci at r: its address -/
def pis (σ : ST) (r : Option Nat) (ci : Nat) : Option Nat := match r with
  | none => none
  | some a => match σ.2.2.2.1 a with
    | some (.inr (c, _)) => if c = ci then some a else none
    | _ => none
/-- its field f, a number -/
def pgi (σ : ST) (r : Option Nat) (ci f : Nat) : Option Int32 := match r with
  | none => none
  | some a => match σ.2.2.2.1 a with
    | some (.inr (c, fs)) => if c = ci then (match fs[f]? with | some (.int v) => some v | _ => none) else none
    | _ => none
/-- its field f, a reference -/
def pgr (σ : ST) (r : Option Nat) (ci f : Nat) : Option (Option Nat) := match r with
  | none => none
  | some a => match σ.2.2.2.1 a with
    | some (.inr (c, fs)) => if c = ci then (match fs[f]? with | some .null => some none | some (.ref b) => some (some b) | _ => none) else none
    | _ => none
/-- its field f is written -/
def ppv (σ : ST) (r : Option Nat) (ci f : Nat) (v : Value) : Option ST := match r with
  | none => none
  | some a => match σ.2.2.2.1 a with
    | some (.inr (c, fs)) => if c = ci ∧ f < fs.length then some (setg σ (gset σ.2.2.2.1 a (.inr (ci, fs.set f v)))) else none
    | _ => none
/-- a new object -/
def aloc (σ : ST) (ci : Nat) (fs : List Value) (n : Nat) : ST := (σ.1, σ.2.1, σ.2.2.1, gset σ.2.2.2.1 (szo σ) (.inr (ci, fs)), szo σ + 1, suo σ + n)
/-- a reference is put into a fixed array whose elements are of the class ci -/
def asr (σ : ST) (o k : Nat) (i : Int32) (r : Option Nat) (ci : Nat) : Option ST := match r with
  | none => some (aR σ o k i none)
  | some a => match σ.2.2.2.1 a with
    | some (.inr (c, _)) => if c = ci then some (aR σ o k i (some a)) else none
    | _ => none
theorem pis_ex {σ : ST} {r : Option Nat} {ci a : Nat} (h : pis σ r ci = some a) : r = some a ∧ ∃ fs, σ.2.2.2.1 a = some (.inr (ci, fs)) := by
  unfold pis at h
  split at h
  · cases h
  · split at h
    · rename_i a' c fs he
      split at h
      · rename_i hc
        subst hc
        cases h
        exact ⟨rfl, _, he⟩
      · cases h
    · cases h
theorem pgi_ex {σ : ST} {r : Option Nat} {ci f : Nat} {v : Int32} (h : pgi σ r ci f = some v) : ∃ a fs, r = some a ∧ σ.2.2.2.1 a = some (.inr (ci, fs)) ∧ fs[f]? = some (.int v) := by
  unfold pgi at h
  split at h
  · cases h
  · split at h
    · rename_i c fs he
      split at h
      · rename_i hc
        subst hc
        split at h
        · rename_i v' hv
          cases h
          exact ⟨_, fs, rfl, he, hv⟩
        · cases h
      · cases h
    · cases h
theorem pgr_ex {σ : ST} {r : Option Nat} {ci f : Nat} {v : Option Nat} (h : pgr σ r ci f = some v) : ∃ a fs, r = some a ∧ σ.2.2.2.1 a = some (.inr (ci, fs)) ∧ fs[f]? = some (va_rf v) := by
  unfold pgr at h
  split at h
  · cases h
  · split at h
    · rename_i c fs he
      split at h
      · rename_i hc
        subst hc
        split at h
        · rename_i hv
          cases h
          exact ⟨_, fs, rfl, he, hv⟩
        · rename_i b hv
          cases h
          exact ⟨_, fs, rfl, he, hv⟩
        · cases h
      · cases h
    · cases h
theorem ppv_ex {σ σ1 : ST} {r : Option Nat} {ci f : Nat} {v : Value} (h : ppv σ r ci f v = some σ1) : ∃ a fs, r = some a ∧ σ.2.2.2.1 a = some (.inr (ci, fs)) ∧ f < fs.length ∧ σ1 = setg σ (gset σ.2.2.2.1 a (.inr (ci, fs.set f v))) := by
  unfold ppv at h
  split at h
  · cases h
  · split at h
    · rename_i c fs he
      split at h
      · rename_i hc
        obtain ⟨rfl, hl⟩ := hc
        cases h
        exact ⟨_, fs, rfl, he, hl, rfl⟩
      · cases h
    · cases h
theorem asr_ex {σ σ1 : ST} {o k ci : Nat} {i : Int32} {r : Option Nat} (h : asr σ o k i r ci = some σ1) : σ1 = aR σ o k i r ∧ (∀ a, r = some a → ∃ fs, σ.2.2.2.1 a = some (.inr (ci, fs))) := by
  unfold asr at h
  split at h
  · cases h
    exact ⟨rfl, fun a q => by cases q⟩
  · split at h
    · rename_i a c fs he
      split at h
      · rename_i hc
        subst hc
        cases h
        exact ⟨rfl, fun b q => by cases q; exact ⟨_, he⟩⟩
      · cases h
    · cases h
/-- the pool's cell at a is new, all others stay -/
theorem Pic.pset {ft : List FC} {G : GT} {σ : ST} {H H1 : Heap} {a : Nat} {e0 e : va_E} (h : Pic ft G σ H) (ha : σ.2.2.2.1 a = some e0) (he : va_at G.1 lk_cl (a, e) H1) (z : H1.size = H.size) (zt : tot H1 = tot H) (oq : ∀ q : Nat, q ≠ a → H1[q]? = H[q]?) : Pic ft G (setg σ (gset σ.2.2.2.1 a e)) H1 := by
  obtain ⟨h1, h2, h3, h4⟩ := h
  obtain ⟨a1, a2, a3⟩ := h3 a e0 ha
  refine ⟨fun j c hj => ?_, h2, fun b eb hb => ?_, fun ht => ?_⟩
  · have e1 : fxe G (setg σ (gset σ.2.2.2.1 a e)) c = fxe G σ c := by cases c <;> rfl
    rw [e1]
    exact ⟨(h1 j c hj).1.kept (oq _ (a3 j (lt_of_some hj))), (h1 j c hj).2⟩
  · have hb : (if b = a then some e else σ.2.2.2.1 b) = some eb := hb
    by_cases hba : b = a
    · rw [if_pos hba] at hb
      cases hb
      subst hba
      exact ⟨he, a2, a3⟩
    · rw [if_neg hba] at hb
      obtain ⟨b1, b2, b3⟩ := h3 b eb hb
      exact ⟨b1.kept (oq b hba), b2, b3⟩
  · obtain ⟨k1, k2, k3⟩ := h4 ht
    exact ⟨z.trans k1, zt.trans k2, k3⟩
/-- a new cell of the pool -/
theorem Pic.push {ft : List FC} {G : GT} {σ : ST} {H H1 : Heap} {e : va_E} {n : Nat} {c : Cell} (h : Pic ft G σ H) (hal : G.2.2.2.2 = true) (he : va_at G.1 lk_cl (szo σ, e) H1) (z : H1.size = H.size + 1) (hc : H1[H.size]? = some c) (hn : c.slots.size = n) (oq : ∀ q : Nat, q < H.size → H1[q]? = H[q]?) : Pic ft G ((σ.1, σ.2.1, σ.2.2.1, gset σ.2.2.2.1 (szo σ) e, szo σ + 1, suo σ + n) : ST) H1 := by
  obtain ⟨h1, h2, h3, h4⟩ := h
  obtain ⟨k1, k2, k3⟩ := h4 hal
  refine ⟨fun j d hj => ?_, h2, fun b eb hb => ?_, fun _ => ⟨?_, ?_, fun q hq => k3 q (Nat.le_trans (Nat.le_succ _) hq)⟩⟩
  · have e1 : fxe G ((σ.1, σ.2.1, σ.2.2.1, gset σ.2.2.2.1 (szo σ) e, szo σ + 1, suo σ + n) : ST) d = fxe G σ d := by cases d <;> rfl
    rw [e1]
    exact ⟨(h1 j d hj).1.kept (oq _ (h1 j d hj).1.lt), (h1 j d hj).2⟩
  · have hb : (if b = szo σ then some e else σ.2.2.2.1 b) = some eb := hb
    by_cases hba : b = szo σ
    · rw [if_pos hba] at hb
      cases hb
      subst hba
      refine ⟨he, k3 _ (Nat.le_refl _), fun j hj q => ?_⟩
      obtain ⟨d, hd⟩ : ∃ d, ft[j]? = some d := ⟨_, List.getElem?_eq_getElem hj⟩
      have hlt := (h1 j d hd).1.lt
      rw [show (G.2.2.1 j, fxe G σ d).1 = G.2.2.1 j from rfl, q, k1] at hlt
      exact Nat.lt_irrefl _ hlt
    · rw [if_neg hba] at hb
      obtain ⟨b1, b2, b3⟩ := h3 b eb hb
      exact ⟨b1.kept (oq b b1.lt), b2, b3⟩
  · show H1.size = szo σ + 1
    rw [z, k1]
  · show tot H1 = suo σ + n
    rw [tot_push z hc oq, hn, k2]
section PRW
variable {p : Program} {l : Launch} {e : Env} {R : Room} {s : State} {m : MethodId} {args : Array Value} {below : List Frame} {meth : Method} {c : Code} {H : Heap} {locs : List Loc} {cells slots : Nat} {Q : State → Prop}
variable {cc : ByteArray} {pc nL : Nat} {ls : Array Slot} {rest : List Value} {own : String} {ft : List FC} {G : GT} {σ : ST}
theorem rr_aload_n (hexec : p.tables.exec = Jvm.exec) (hb : c.code = cc) {k : Fin 4} {i : Nat} {r : Option Nat} (hdg : decode cc pc = .ok (.aload_n k, 1)) (hi : (k : Nat) = i) (hl : ls[i]? = some (.val (va_rf r)))
    (kk : W p l e R s m args below meth c H locs cells slots Q (F0 m (pc + 1) ls (va_rf r :: rest))) : W p l e R s m args below meth c H locs cells slots Q (F0 m pc ls rest) := by
  cases r with
  | none => exact lv_aload_nN hexec hb hdg hi hl kk
  | some a => exact lv_aload_n hexec hb hdg hi hl kk
theorem rr_aload (hexec : p.tables.exec = Jvm.exec) (hb : c.code = cc) {i : Nat} {r : Option Nat} (hdg : decode cc pc = .ok (.aload i, 2)) (hl : ls[i]? = some (.val (va_rf r)))
    (kk : W p l e R s m args below meth c H locs cells slots Q (F0 m (pc + 2) ls (va_rf r :: rest))) : W p l e R s m args below meth c H locs cells slots Q (F0 m pc ls rest) := by
  cases r with
  | none => exact lv_aloadN hexec hb hdg hl kk
  | some a => exact lv_aload hexec hb hdg hl kk
theorem rr_astore_n (hexec : p.tables.exec = Jvm.exec) (hb : c.code = cc) {k : Fin 4} {i nL : Nat} {r : Option Nat} {lv lv' : List (Nat × Value)} (hdg : decode cc pc = .ok (.astore_n k, 1)) (hi : (k : Nat) = i) (h : lv_has ls nL lv) (hn : i < nL) (hl : (i, va_rf r) :: lv.filter (fun q => !(q.1 == i) && !(q.1 + 1 == i && q.2.category == 2)) = lv')
    (kk : ∀ ls' : Array Slot, lv_has ls' nL lv' → W p l e R s m args below meth c H locs cells slots Q (F0 m (pc + 1) ls' rest)) : W p l e R s m args below meth c H locs cells slots Q (F0 m pc ls (va_rf r :: rest)) := by
  cases r with
  | none => exact lv_astore_nN hexec hb hdg hi h hn hl kk
  | some a => exact lv_astore_n hexec hb hdg hi h hn hl kk
theorem rr_astore (hexec : p.tables.exec = Jvm.exec) (hb : c.code = cc) {i nL : Nat} {r : Option Nat} {lv lv' : List (Nat × Value)} (hdg : decode cc pc = .ok (.astore i, 2)) (h : lv_has ls nL lv) (hn : i < nL) (hl : (i, va_rf r) :: lv.filter (fun q => !(q.1 == i) && !(q.1 + 1 == i && q.2.category == 2)) = lv')
    (kk : ∀ ls' : Array Slot, lv_has ls' nL lv' → W p l e R s m args below meth c H locs cells slots Q (F0 m (pc + 2) ls' rest)) : W p l e R s m args below meth c H locs cells slots Q (F0 m pc ls (va_rf r :: rest)) := by
  cases r with
  | none => exact lv_astoreN hexec hb hdg h hn hl kk
  | some a => exact lv_astore hexec hb hdg h hn hl kk
theorem rr_ifnull (hexec : p.tables.exec = Jvm.exec) (hb : c.code = cc) {r : Option Nat} {off : Int} {tgt : Nat} (hdg : decode cc pc = .ok (.ifnull off, 3)) (ht : (pc : Int) + off = (tgt : Int))
    (kt : r = none → W p l e R s m args below meth c H locs cells slots Q (F0 m tgt ls rest)) (kf : ¬ r = none → W p l e R s m args below meth c H locs cells slots Q (F0 m (pc + 3) ls rest)) : W p l e R s m args below meth c H locs cells slots Q (F0 m pc ls (va_rf r :: rest)) := by
  cases r with
  | none => exact lv_ifnullN hexec hb hdg ht (kt rfl)
  | some a => exact lv_ifnull hexec hb hdg (kf (fun q => by cases q))
theorem rr_ifnonnull (hexec : p.tables.exec = Jvm.exec) (hb : c.code = cc) {r : Option Nat} {off : Int} {tgt : Nat} (hdg : decode cc pc = .ok (.ifnonnull off, 3)) (ht : (pc : Int) + off = (tgt : Int))
    (kt : ¬ r = none → W p l e R s m args below meth c H locs cells slots Q (F0 m tgt ls rest)) (kf : r = none → W p l e R s m args below meth c H locs cells slots Q (F0 m (pc + 3) ls rest)) : W p l e R s m args below meth c H locs cells slots Q (F0 m pc ls (va_rf r :: rest)) := by
  cases r with
  | none => exact lv_ifnonnullN hexec hb hdg (kf rfl)
  | some a => exact lv_ifnonnull hexec hb hdg ht (kt (fun q => by cases q))
/-- a reference known to be an address -/
theorem rr_known {r : Option Nat} {a : Nat} (h : r = some a) : va_rf r = .ref a := by rw [h]; rfl
theorem r_pgi (X : CX G p m c cc nL s args own) (hP : PS ft G s σ H locs) {r : Option Nat} {ci : Nat} {C : String} {T : u_T} {N : Nat} (hc : lk_cl[ci]? = some (C, T, N)) (f : Nat) (hf : f < N) {index : Nat} {v : Int32} (hg : pgi σ r ci f = some v) (hl : Cond.fieldLink own index (T f).1 (T f).2.1 (T f).2.2.1 ∈ lw_all) (hdg : decode cc pc = .ok (.getfield index, 3))
    (kk : W p l e R s m args below meth c H locs cells slots Q (F0 m (pc + 3) ls (.int v :: rest))) : W p l e R s m args below meth c H locs cells slots Q (F0 m pc ls (va_rf r :: rest)) := by
  obtain ⟨a, fs, rfl, h1, h2⟩ := pgi_ex hg
  obtain ⟨⟨hx, hb, hml, hown, hts⟩, hK, hN, hEV⟩ := X
  exact va_get hx hb hts (lk_ok ci C T N hc).1 hown hK (va_P1 (hP.1.2.2.1 a _ h1).1) 0 rfl hc f hf (hts _ hl) (fun _ h => h) h2 hdg kk
theorem r_pgiN (X : CX G p m c cc nL s args own) (hP : PS ft G s σ H locs) {r : Option Nat} {ci : Nat} {C host : String} {T : u_T} {N : Nat} (hc : lk_cl[ci]? = some (C, T, N)) (f : Nat) (hf : f < N) {index : Nat} {v : Int32} (hg : pgi σ r ci f = some v) (hl : Cond.fieldLinkNest own index (T f).1 (T f).2.1 (T f).2.2.1 host ∈ lw_tbl) (hdg : decode cc pc = .ok (.getfield index, 3))
    (kk : W p l e R s m args below meth c H locs cells slots Q (F0 m (pc + 3) ls (.int v :: rest))) : W p l e R s m args below meth c H locs cells slots Q (F0 m pc ls (va_rf r :: rest)) := by
  obtain ⟨a, fs, rfl, h1, h2⟩ := pgi_ex hg
  obtain ⟨⟨hx, hb, hml, hown, hts⟩, hK, hN, hEV⟩ := X
  exact va_getN hx hb hts (lk_ok ci C T N hc).1 hown hK (va_P1 (hP.1.2.2.1 a _ h1).1) 0 rfl hc f hf (va_Nw.use rfl (hN _ hl rfl)) (fun _ h => h) h2 hdg kk
theorem r_pgr (X : CX G p m c cc nL s args own) (hP : PS ft G s σ H locs) {r : Option Nat} {ci : Nat} {C : String} {T : u_T} {N : Nat} (hc : lk_cl[ci]? = some (C, T, N)) (f : Nat) (hf : f < N) {index : Nat} {v : Option Nat} (hg : pgr σ r ci f = some v) (hl : Cond.fieldLink own index (T f).1 (T f).2.1 (T f).2.2.1 ∈ lw_all) (hdg : decode cc pc = .ok (.getfield index, 3))
    (kk : W p l e R s m args below meth c H locs cells slots Q (F0 m (pc + 3) ls (va_rf v :: rest))) : W p l e R s m args below meth c H locs cells slots Q (F0 m pc ls (va_rf r :: rest)) := by
  obtain ⟨a, fs, rfl, h1, h2⟩ := pgr_ex hg
  obtain ⟨⟨hx, hb, hml, hown, hts⟩, hK, hN, hEV⟩ := X
  exact va_get hx hb hts (lk_ok ci C T N hc).1 hown hK (va_P1 (hP.1.2.2.1 a _ h1).1) 0 rfl hc f hf (hts _ hl) (fun _ h => h) h2 hdg kk
theorem r_pgrN (X : CX G p m c cc nL s args own) (hP : PS ft G s σ H locs) {r : Option Nat} {ci : Nat} {C host : String} {T : u_T} {N : Nat} (hc : lk_cl[ci]? = some (C, T, N)) (f : Nat) (hf : f < N) {index : Nat} {v : Option Nat} (hg : pgr σ r ci f = some v) (hl : Cond.fieldLinkNest own index (T f).1 (T f).2.1 (T f).2.2.1 host ∈ lw_tbl) (hdg : decode cc pc = .ok (.getfield index, 3))
    (kk : W p l e R s m args below meth c H locs cells slots Q (F0 m (pc + 3) ls (va_rf v :: rest))) : W p l e R s m args below meth c H locs cells slots Q (F0 m pc ls (va_rf r :: rest)) := by
  obtain ⟨a, fs, rfl, h1, h2⟩ := pgr_ex hg
  obtain ⟨⟨hx, hb, hml, hown, hts⟩, hK, hN, hEV⟩ := X
  exact va_getN hx hb hts (lk_ok ci C T N hc).1 hown hK (va_P1 (hP.1.2.2.1 a _ h1).1) 0 rfl hc f hf (va_Nw.use rfl (hN _ hl rfl)) (fun _ h => h) h2 hdg kk
theorem x_putN (X : CX G p m c cc nL s args own) {H0 : Heap} {a ci : Nat} {fs : List Value} (hat : va_at G.1 lk_cl (a, .inr (ci, fs)) H) (hS0 : va_S G.2.2.2.1 H0 H locs) (hA : G.2.2.2.1 a) {C host : String} {T : u_T} {N : Nat} (hc : lk_cl[ci]? = some (C, T, N)) (f : Nat) (hf : f < N) {index : Nat} (hl : Cond.fieldLinkNest own index (T f).1 (T f).2.1 (T f).2.2.1 host ∈ lw_tbl) (hfin : (T f).2.2.2 = false) {ty : FieldType} {v : Value} (hd : parseFieldDescriptor (T f).2.2.1 = some ty) (hn : narrow ty v = v) (hfit : fits ty v = true) (hlen : f < fs.length) (hdg : decode cc pc = .ok (.putfield index, 3))
    (kk : ∀ (H1 : Heap) (locs1 : List Loc), va_at G.1 lk_cl (a, .inr (ci, fs.set f v)) H1 → H1.size = H.size → tot H1 = tot H → (∀ q : Nat, q ≠ a → H1[q]? = H[q]?) → va_S G.2.2.2.1 H0 H1 locs1 → W p l e R s m args below meth c H1 locs1 cells slots Q (F0 m (pc + 3) ls rest)) : W p l e R s m args below meth c H locs cells slots Q (F0 m pc ls (v :: .ref a :: rest)) := by
  obtain ⟨⟨hx, hb, hml, hown, hts⟩, hK, hN, hEV⟩ := X
  obtain ⟨hin, ⟨ty0, hty⟩, hnm⟩ := lk_ok ci C T N hc
  have hap := lk_apart hts hin ty0 hty hnm hK hc
  obtain ⟨r, h1, cell, q1, q2, q3, q4⟩ := hat
  have hr : r = (C, T, N) := Option.some.inj (h1.symm.trans hc)
  subst hr
  obtain ⟨hS, hfc, kC, hkC, hkind⟩ := hK.1 ci _ hc
  obtain ⟨cf, kf, fi, fd, hi, hsl⟩ := hS f hf
  have hlay := hts _ (hin _ (u_in_lay hf))
  unfold u_lay at hlay
  rw [if_neg (by rw [hfin]; decide)] at hlay
  have hst := (u_facts hfc hkC (u_lays hts hin hf) hi).1
  have h6 := u_store hfc hkC hkind hlay hi hd hn hfit
  refine va_WputK hx hb (f := fd) hown (va_Nw.use rfl (hN _ hl rfl)) hi hst (by rw [q2]; exact h6) q1 q3 (by rw [hsl]; exact k2_hasslot (q4 f hf)) rfl rfl hdg fun H' e1 e2 e3 => ?_
  rw [hsl] at e1 ⊢
  exact kk H' _ ⟨_, hc, t_OB.to (V := updV (vp_V fs) f v) ⟨_, e1, q2, q3, t_set q4 hap hf v⟩ (fun j _ => vp_updV_set hlen v j)⟩ e2 (tot_set q1 e1 e3 (set_slots _ _ _)) e3 (hS0.put e2 e3 hA)
theorem x_putF (X : CX G p m c cc nL s args own) {H0 : Heap} {a ci : Nat} {fs : List Value} (hat : va_at G.1 lk_cl (a, .inr (ci, fs)) H) (hS0 : va_S G.2.2.2.1 H0 H locs) (hA : G.2.2.2.1 a) {C : String} {T : u_T} {N : Nat} (hc : lk_cl[ci]? = some (C, T, N)) (f : Nat) (hf : f < N) {index : Nat} (hl : Cond.fieldLink own index (T f).1 (T f).2.1 (T f).2.2.1 ∈ lw_all) (hfin : (T f).2.2.2 = true) (hin2 : meth.name = "<init>") (hdecl : (T f).1 = own) {ty : FieldType} {v : Value} (hd : parseFieldDescriptor (T f).2.2.1 = some ty) (hn : narrow ty v = v) (hfit : fits ty v = true) (hlen : f < fs.length) (hdg : decode cc pc = .ok (.putfield index, 3))
    (kk : ∀ (H1 : Heap) (locs1 : List Loc), va_at G.1 lk_cl (a, .inr (ci, fs.set f v)) H1 → H1.size = H.size → tot H1 = tot H → (∀ q : Nat, q ≠ a → H1[q]? = H[q]?) → va_S G.2.2.2.1 H0 H1 locs1 → W p l e R s m args below meth c H1 locs1 cells slots Q (F0 m (pc + 3) ls rest)) : W p l e R s m args below meth c H locs cells slots Q (F0 m pc ls (v :: .ref a :: rest)) := by
  obtain ⟨⟨hx, hb, hml, hown, hts⟩, hK, hN, hEV⟩ := X
  obtain ⟨hin, ⟨ty0, hty⟩, hnm⟩ := lk_ok ci C T N hc
  have hap := lk_apart hts hin ty0 hty hnm hK hc
  obtain ⟨r, h1, cell, q1, q2, q3, q4⟩ := hat
  have hr : r = (C, T, N) := Option.some.inj (h1.symm.trans hc)
  subst hr
  obtain ⟨hS, hfc, kC, hkC, hkind⟩ := hK.1 ci _ hc
  obtain ⟨cf, kf, fi, fd, hi, hsl⟩ := hS f hf
  have hlay := hts _ (hin _ (u_in_lay hf))
  unfold u_lay at hlay
  rw [if_pos hfin] at hlay
  have hst := (u_facts hfc hkC (u_lays hts hin hf) hi).1
  have hcf : m.cls = cf := by
    obtain ⟨_, _, c', _, _, _, -, -, hf', -, -, -, hown2, -⟩ := Cond.laysFinal_spec hlay
    have e1 : c' = cf := by have := hi.symm.trans hf'; simp at this; exact this.1.symm
    rw [hdecl] at hown2
    rw [← e1]; exact Option.some.inj (hown.symm.trans hown2)
  have h6 := u_fits hfc hkC hkind (Or.inr hlay) hi hd hn hfit
  refine W.putFinK hx hb hown (hts _ hl) hi hst hcf hin2 (by rw [q2]; exact h6) q1 q3 (by rw [hsl]; exact k2_hasslot (q4 f hf)) rfl rfl hdg fun H' e1 e2 e3 => ?_
  rw [hsl] at e1 ⊢
  exact kk H' _ ⟨_, hc, t_OB.to (V := updV (vp_V fs) f v) ⟨_, e1, q2, q3, t_set q4 hap hf v⟩ (fun j _ => vp_updV_set hlen v j)⟩ e2 (tot_set q1 e1 e3 (set_slots _ _ _)) e3 (hS0.put e2 e3 hA)
theorem r_ppv (X : CX G p m c cc nL s args own) (hP : PS ft G s σ H locs) {r : Option Nat} {ci : Nat} {C : String} {T : u_T} {N : Nat} (hc : lk_cl[ci]? = some (C, T, N)) (f : Nat) (hf : f < N) {index : Nat} {v : Value} {σ1 : ST} (hg : ppv σ r ci f v = some σ1) (hl : Cond.fieldLink own index (T f).1 (T f).2.1 (T f).2.2.1 ∈ lw_all) (hfin : (T f).2.2.2 = false) {ty : FieldType} (hd : parseFieldDescriptor (T f).2.2.1 = some ty) (hn : narrow ty v = v) (hfit : fits ty v = true) (hdg : decode cc pc = .ok (.putfield index, 3))
    (kk : ∀ (H : Heap) (locs : List Loc), PS ft G s σ1 H locs → W p l e R s m args below meth c H locs cells slots Q (F0 m (pc + 3) ls rest)) : W p l e R s m args below meth c H locs cells slots Q (F0 m pc ls (v :: va_rf r :: rest)) := by
  obtain ⟨a, fs, rfl, h1, h2, rfl⟩ := ppv_ex hg
  have h3 := hP.1.2.2.1 a _ h1
  exact x_put X h3.1 hP.2 h3.2.1 hc f hf hl hfin hd hn hfit h2 hdg fun H1 locs1 g1 g2 g3 g4 g5 => kk H1 locs1 ⟨hP.1.pset h1 g1 g2 g3 g4, g5⟩
theorem r_ppvN (X : CX G p m c cc nL s args own) (hP : PS ft G s σ H locs) {r : Option Nat} {ci : Nat} {C host : String} {T : u_T} {N : Nat} (hc : lk_cl[ci]? = some (C, T, N)) (f : Nat) (hf : f < N) {index : Nat} {v : Value} {σ1 : ST} (hg : ppv σ r ci f v = some σ1) (hl : Cond.fieldLinkNest own index (T f).1 (T f).2.1 (T f).2.2.1 host ∈ lw_tbl) (hfin : (T f).2.2.2 = false) {ty : FieldType} (hd : parseFieldDescriptor (T f).2.2.1 = some ty) (hn : narrow ty v = v) (hfit : fits ty v = true) (hdg : decode cc pc = .ok (.putfield index, 3))
    (kk : ∀ (H : Heap) (locs : List Loc), PS ft G s σ1 H locs → W p l e R s m args below meth c H locs cells slots Q (F0 m (pc + 3) ls rest)) : W p l e R s m args below meth c H locs cells slots Q (F0 m pc ls (v :: va_rf r :: rest)) := by
  obtain ⟨a, fs, rfl, h1, h2, rfl⟩ := ppv_ex hg
  have h3 := hP.1.2.2.1 a _ h1
  exact x_putN X h3.1 hP.2 h3.2.1 hc f hf hl hfin hd hn hfit h2 hdg fun H1 locs1 g1 g2 g3 g4 g5 => kk H1 locs1 ⟨hP.1.pset h1 g1 g2 g3 g4, g5⟩
theorem r_ppvF (X : CX G p m c cc nL s args own) (hP : PS ft G s σ H locs) {r : Option Nat} {ci : Nat} {C : String} {T : u_T} {N : Nat} (hc : lk_cl[ci]? = some (C, T, N)) (f : Nat) (hf : f < N) {index : Nat} {v : Value} {σ1 : ST} (hg : ppv σ r ci f v = some σ1) (hl : Cond.fieldLink own index (T f).1 (T f).2.1 (T f).2.2.1 ∈ lw_all) (hfin : (T f).2.2.2 = true) (hin2 : meth.name = "<init>") (hdecl : (T f).1 = own) {ty : FieldType} (hd : parseFieldDescriptor (T f).2.2.1 = some ty) (hn : narrow ty v = v) (hfit : fits ty v = true) (hdg : decode cc pc = .ok (.putfield index, 3))
    (kk : ∀ (H : Heap) (locs : List Loc), PS ft G s σ1 H locs → W p l e R s m args below meth c H locs cells slots Q (F0 m (pc + 3) ls rest)) : W p l e R s m args below meth c H locs cells slots Q (F0 m pc ls (v :: va_rf r :: rest)) := by
  obtain ⟨a, fs, rfl, h1, h2, rfl⟩ := ppv_ex hg
  have h3 := hP.1.2.2.1 a _ h1
  exact x_putF X h3.1 hP.2 h3.2.1 hc f hf hl hfin hin2 hdecl hd hn hfit h2 hdg fun H1 locs1 g1 g2 g3 g4 g5 => kk H1 locs1 ⟨hP.1.pset h1 g1 g2 g3 g4, g5⟩
/-- a new object -/
theorem r_new (X : CX G p m c cc nL s args own) (hal : G.2.2.2.2 = true) (hP : PS ft G s σ H locs) (ci : Nat) {C : String} {T : u_T} {N : Nat} (hc : lk_cl[ci]? = some (C, T, N)) {index : Nat} (ty : Nat → FieldType) (hty : ∀ k, k < N → parseFieldDescriptor (T k).2.2.1 = some (ty k)) {fs : List Value} (hfs : (List.range N).map (fun k => defaultValue (ty k)) = fs) (hcl : Cond.classLink own index C ∈ lw_all) (hinst : Cond.instantiable C N ∈ lw_all) (hini : Cond.initialized C ∈ lw_all) (hcells : cells + 1 ≤ R.cells) (hslots : slots + N ≤ R.slots) (hdg : decode cc pc = .ok (.new index, 3))
    (kk : ∀ (σ1 : ST) (H : Heap), σ1 = aloc σ ci fs N → PS ft G s σ1 H locs → W p l e R s m args below meth c H locs (cells + 1) (slots + N) Q (F0 m (pc + 3) ls (.ref (szo σ) :: rest))) : W p l e R s m args below meth c H locs cells slots Q (F0 m pc ls rest) := by
  obtain ⟨⟨hx, hb, hml, hown, hts⟩, hK, hN, hEV⟩ := X
  obtain ⟨hin, -, hnm⟩ := lk_ok ci C T N hc
  have hKn := hK.1 ci _ hc
  have hsz := (hP.1.2.2.2 hal).1
  refine W.newc hx hb hown (hts _ hcl) (hts _ hinst) (hts _ hini) rfl hdg hcells hslots fun cC kC h1 h2 h3 h4 => ?_
  have hcC : cC = G.1.1 ci := Option.some.inj (h1.symm.trans hKn.2.1)
  subst hcC
  generalize hH1 : H.push ({ cls := G.1.1 ci, slots := kC.instanceTypes.map defaultValue, vm := .none } : Cell) = H1
  have z1 : H1.size = H.size + 1 := by rw [← hH1, Array.size_push]
  have e1 : H1[H.size]? = some (blank (G.1.1 ci) kC) := by rw [← hH1, Array.getElem?_push_size]; rfl
  have o1 : ∀ q : Nat, q < H.size → H1[q]? = H[q]? := fun q hq => by rw [← hH1, Array.getElem?_push, if_neg (Nat.ne_of_lt hq)]
  have hat : va_at G.1 lk_cl (szo σ, .inr (ci, fs)) H1 := by
    refine ⟨_, hc, (u_born ty hts hin hKn h2 (by rw [← hsz]; exact e1) hty).to (fun j hj => ?_)⟩
    rw [← hfs]
    unfold vp_V
    rw [List.getD_eq_getElem?_getD, List.getElem?_map, List.getElem?_range hj]
    rfl
  have hn : (blank (G.1.1 ci) kC).slots.size = N := by
    show (kC.instanceTypes.map defaultValue).size = N
    rw [Array.size_map]
    exact h4
  have key := kk _ H1 rfl ⟨hP.1.push hal hat z1 e1 hn o1, Nat.le_trans hP.2.1 (by omega), fun x g1 g2 => (o1 x (Nat.lt_of_lt_of_le g1 hP.2.1)).trans (hP.2.2.1 x g1 g2), hP.2.2.2⟩
  rw [hsz]
  exact key
/-- fixed arrays of references -/
theorem r_aald (X : CX G p m c cc nL s args own) (hP : PS ft G s σ H locs) (j : Nat) {o k n t : Nat} (hj : ft[j]? = some (.inl (o, k, n, t + 3))) {C : String} (ht : (lk_tys G)[t + 3]? = some (G.2.1 (t + 3), .object C)) {i : Int32} (hin : vp_in i n) (hdg : decode cc pc = .ok (.aaload, 1))
    (kk : W p l e R s m args below meth c H locs cells slots Q (F0 m (pc + 1) ls (va_rf (lR σ o k i) :: rest))) : W p l e R s m args below meth c H locs cells slots Q (F0 m pc ls (.int i :: .ref (G.2.2.1 j) :: rest)) :=
  va_aldq X.1.1 X.1.2.1 X.2.1 (va_P1 (hP.1.1 j _ hj).1) 0 (t + 3) rfl ht hin hdg kk
theorem r_aast (X : CX G p m c cc nL s args own) (hw : ftW ft) (hP : PS ft G s σ H locs) (j : Nat) {o k n t ci : Nat} (hj : ft[j]? = some (.inl (o, k, n, t + 3))) {C : String} {T : u_T} {N : Nat} (hc : lk_cl[ci]? = some (C, T, N)) (ht : (lk_tys G)[t + 3]? = some (G.2.1 (t + 3), .object C)) {i : Int32} {v : Option Nat} {σ1 : ST} (hg : asr σ o k i v ci = some σ1) (hin : vp_in i n) (hdg : decode cc pc = .ok (.aastore, 1))
    (kk : ∀ (H : Heap) (locs : List Loc), PS ft G s σ1 H locs → W p l e R s m args below meth c H locs cells slots Q (F0 m (pc + 1) ls rest)) : W p l e R s m args below meth c H locs cells slots Q (F0 m pc ls (va_rf v :: .int i :: .ref (G.2.2.1 j) :: rest)) := by
  obtain ⟨rfl, hv⟩ := asr_ex hg
  obtain ⟨⟨hx, hb, hml, hown, hts⟩, hK, hN, hEV⟩ := X
  have ha : H[G.2.2.1 j]? = some (vp_cell (G.2.1 (t + 3)) (n, .inr (.inr (.inr (.inr (σ.2.2.1 o (k + 1))))))) := (hP.1.1 j _ hj).1
  have hlt : i.toNatClampNeg < n := Nat.not_le.mp fun q => hin (Or.inr q)
  have h0 : ¬ i < 0 := fun q => hin (Or.inl q)
  have fin : ∀ H1 : Heap, H1[G.2.2.1 j]? = some ((vp_cell (G.2.1 (t + 3)) (n, .inr (.inr (.inr (.inr (σ.2.2.1 o (k + 1))))))).setSlot i.toNatClampNeg (va_rf v)) → H1.size = H.size → (∀ q : Nat, q ≠ G.2.2.1 j → H1[q]? = H[q]?) → PS ft G s (aR σ o k i v) H1 (locs ++ [⟨G.2.2.1 j, i.toNatClampNeg⟩]) := by
    intro H1 e1 z oq
    refine ⟨hP.1.set hj ?_ z (tot_set ha e1 oq (set_slots _ _ _)) oq (fx_aR hw hj) rfl, hP.2.put z oq (hP.1.1 j _ hj).2⟩
    show H1[G.2.2.1 j]? = some (vp_cell (G.2.1 (t + 3)) (n, .inr (.inr (.inr (.inr (up3 σ.2.2.1 o (k + 1) i.toNatClampNeg v o (k + 1)))))))
    rw [e1, up3_selfR, vp_cell_q, vp_cell_q, arrV_store]
    congr 2
    funext q
    by_cases hq : q = i.toNatClampNeg
    · subst hq
      simp [updV, va_up]
    · simp [updV, va_up, hq]
  cases v with
  | none =>
    exact va_WaastN (C := C) hx hb ha ((hK.2 (t + 3) _ ht).1 n (fun j => va_rf (σ.2.2.1 o (k + 1) j))) (fun h => by cases h) (by show ¬ (i < 0 ∨ (arrV _ _ _).slots.size ≤ _); rw [arrV_size]; exact hin) rfl rfl hdg fun H1 e1 z oq => kk H1 _ (fin H1 e1 z oq)
  | some a =>
    obtain ⟨fs, hga⟩ := hv a rfl
    obtain ⟨r', hr', cellV, g1, g2, g3, -⟩ := (hP.1.2.2.1 a _ hga).1
    have hcls := (hK.1 ci _ hc).2
    obtain ⟨kA, comp, k1, k2, k3, -⟩ := (hK.2 (t + 3) _ ht).2
    have hcomp : comp = G.1.1 ci := Option.some.inj (k3.symm.trans hcls.1)
    subst hcomp
    obtain ⟨kC, hkC, -⟩ := hcls.2
    exact W.aast hx hb ha (fun q h => by cases h) (fun h => by cases h) k1 k2 rfl hkC ⟨h0, by show _ < (arrV _ _ _).slots.size; rw [arrV_size]; exact hlt⟩ g1 (fun q h => by rw [g3] at h; cases h) (by rw [g2]; exact hkC) (by rw [g2]; exact va_assign hcls) rfl rfl hdg fun H1 e1 z oq => kk H1 _ (fin H1 e1 z oq)
theorem r_aret (X : CX G p m c cc nL s args own) (hP : PS ft G s σ H locs) {rt : FieldType} (hr : meth.sig.returnType = some rt) (hrt : (∃ n, rt = .object n) ∨ ∃ t, rt = .array t) (hlocks : meth.locks = false) {v : Option Nat} {res : Option Nat × ST} (he : (v, σ) = res) (hdg : decode cc pc = .ok (.areturn, 1)) : W p l e R s m args below meth c H locs cells slots (MQ below (va_Qq (fun (r : Option Nat) (u : ST) => (r, u) = res) (PicU ft G) G.2.2.2.1) args s cells slots G.2.2.2.1) (F0 m pc ls [va_rf v]) :=
  W.aret X.1.1 X.1.2.1 hr hrt (va_rf_or v) (fun t ht hW => ⟨⟨v, σ, rfl, he, picU_end X hP ht hW⟩, hP.2.F ht⟩) hP.2.2.2 hdg hlocks
/-- the book of cells and slots, made exact -/
theorem W.tight {g : JFrame} {k n : Nat} (hz : H.size ≤ s.heap.size + k) (ht : tot H ≤ tot s.heap + n) (kk : W p l e R s m args below meth c H locs k n Q g) : W p l e R s m args below meth c H locs cells slots Q g := by
  intro T hT X
  refine kk T hT { X with same := ?_ }
  obtain ⟨a1, a2, a3, a4, a5, a6⟩ := X.same
  refine ⟨a1, a2, ?_, a4, ?_, a6⟩
  · show T.heap.size ≤ _
    rw [hT]; exact hz
  · have a2' : s.heap.size ≤ T.heap.size := a2
    have a6' : ∀ (a : Nat) (c : Cell), s.heap[a]? = some c → ∃ c' : Cell, T.heap[a]? = some c' ∧ c'.slots.size = c.slots.size := fun a c h => by
      obtain ⟨c', b1, -, b3, -⟩ := a6 a c h
      exact ⟨c', b1, b3⟩
    have e1 : ((T.heap.toList.take s.heap.size).map (fun c => c.slots.size)) = s.heap.toList.map (fun c => c.slots.size) := by
      apply List.ext_getElem?
      intro i
      rw [List.getElem?_map, List.getElem?_map, List.getElem?_take]
      by_cases hi : i < s.heap.size
      · rw [if_pos hi, Array.getElem?_toList, Array.getElem?_toList]
        obtain ⟨c', b1, b2⟩ := a6' i _ (Array.getElem?_eq_getElem hi)
        rw [b1, Array.getElem?_eq_getElem hi]
        simp [b2]
      · rw [if_neg hi, Array.getElem?_toList, Array.getElem?_eq_none (by omega)]
    have e2 : tot T.heap = tot s.heap + ((T.heap.toList.drop s.heap.size).map (fun c => c.slots.size)).sum := by
      unfold tot
      rw [← e1, ← List.sum_append, ← List.map_append, List.take_append_drop]
    rw [← hT] at ht
    show ((T.heap.toList.drop s.heap.size).map (fun c => c.slots.size)).sum ≤ n
    omega
variable {y : MethodName} {bytes : ByteArray} {maxL mc ms n index : Nat} {ret : Option FieldType} {ws : List Cond} {rm : Room} {Qc : Array Value → State → Outcome → State → Prop} {As st0 : List Value} {a : Array Value}
theorem recv_pool (X : CX G p m c cc nL s args own) (hP : PS ft G s σ H locs) {b ci : Nat} {fs : List Value} (hb : σ.2.2.2.1 b = some (.inr (ci, fs))) {C : String} {T : u_T} {N : Nat} (hc : lk_cl[ci]? = some (C, T, N)) : ∃ cell : Cell, H[b]? = some cell ∧ cell.vm.isStatics = false ∧ s.vm.findClass C = some cell.cls :=
  va_recv X.2.1 (va_P1 (hP.1.2.2.1 b _ hb).1) hc (q0 := 0) rfl
/-- a call through an object of the pool -/
theorem r_runP (X : CX G p m c cc nL s args own) (hP : PS ft G s σ H locs) {b ci : Nat} (hb : ∃ fs, σ.2.2.2.1 b = some (.inr (ci, fs))) {C : String} {T : u_T} {N : Nat} (hc : lk_cl[ci]? = some (C, T, N)) (hM : Met l y ws rm (va_Pc (.ref b :: As) (PicU ft G σ)) Qc mc ms G.2.2.2.1) (cw : CallW R s args own C index y bytes maxL ret ws rm mc ms n) (hn : As.length = n) (hsize : ls.size = nL) (hstack : st0 = As.reverse ++ .ref b :: rest) (hW : (rest.map fun v => v.category).sum ≤ 8) (hdg : decode cc pc = .ok (.invokevirtual index, 3)) (hf : cells + mc ≤ R.cells ∧ slots + ms ≤ R.slots) :
    va_Run p l e R s m args below meth c H locs cells slots mc ms (F0 m pc ls st0) rest (Qc (Value.ref b :: As).toArray) G.2.2.2.1 := by
  obtain ⟨fs, hb⟩ := hb
  exact va_runV X.1 hM cw ⟨PicU.blind, recv_pool X hP hb hc, (pre_call X hP _).2⟩ rfl hn hsize hstack (lv_room hW) hdg hf
/-- a constructor's call -/
theorem r_runI (X : CX G p m c cc nL s args own) (hP : PS ft G s σ H locs) {b : Nat} (hM : Met l y ws rm (va_Pc (.ref b :: As) (PicU ft G σ)) Qc mc ms G.2.2.2.1) (cw : CallB R s args own index y bytes maxL none ws rm mc ms n ∧ y.name = "<init>" ∧ (Cond.instanceMethod y).before args s = true) (hn : As.length = n) (hsize : ls.size = nL) (hstack : st0 = As.reverse ++ .ref b :: rest) (hW : (rest.map fun v => v.category).sum ≤ 8) (hdg : decode cc pc = .ok (.invokespecial index, 3)) (hf : cells + mc ≤ R.cells ∧ slots + ms ≤ R.slots) :
    va_Run p l e R s m args below meth c H locs cells slots mc ms (F0 m pc ls st0) rest (Qc (Value.ref b :: As).toArray) G.2.2.2.1 :=
  va_runI X.1 hM cw (pre_call X hP _) rfl hn hsize hstack (lv_room hW) hdg hf
theorem r_runIN (X : CX G p m c cc nL s args own) (hP : PS ft G s σ H locs) {b : Nat} {host : String} (hM : Met l y ws rm (va_Pc (.ref b :: As) (PicU ft G σ)) Qc mc ms G.2.2.2.1) (cw : va_CN R s args own index y host bytes maxL none ws rm mc ms n ∧ y.name = "<init>" ∧ (Cond.instanceMethod y).before args s = true) (hn : As.length = n) (hsize : ls.size = nL) (hstack : st0 = As.reverse ++ .ref b :: rest) (hW : (rest.map fun v => v.category).sum ≤ 8) (hdg : decode cc pc = .ok (.invokespecial index, 3)) (hf : cells + mc ≤ R.cells ∧ slots + ms ≤ R.slots) :
    va_Run p l e R s m args below meth c H locs cells slots mc ms (F0 m pc ls st0) rest (Qc (Value.ref b :: As).toArray) G.2.2.2.1 :=
  va_runIN X.1 hM cw (pre_call X hP _) rfl hn hsize hstack (lv_room hW) hdg hf
theorem r_runVN (X : CX G p m c cc nL s args own) (hP : PS ft G s σ H locs) (j : Nat) {o ci : Nat} {fl : List (Nat × Nat)} (hj : ft[j]? = some (.inr (o, ci, fl))) {C host : String} {T : u_T} {N : Nat} (hc : lk_cl[ci]? = some (C, T, N)) (hM : Met l y ws rm (va_Pc (.ref (G.2.2.1 j) :: As) (PicU ft G σ)) Qc mc ms G.2.2.2.1) (cw : va_CN R s args own index y host bytes maxL ret ws rm mc ms n ∧ (Cond.instanceMethod y).before args s = true ∧ (Cond.selects C y y).before args s = true) (hn : As.length = n) (hsize : ls.size = nL) (hstack : st0 = As.reverse ++ .ref (G.2.2.1 j) :: rest) (hW : (rest.map fun v => v.category).sum ≤ 8) (hdg : decode cc pc = .ok (.invokevirtual index, 3)) (hf : cells + mc ≤ R.cells ∧ slots + ms ≤ R.slots) :
    va_Run p l e R s m args below meth c H locs cells slots mc ms (F0 m pc ls st0) rest (Qc (Value.ref (G.2.2.1 j) :: As).toArray) G.2.2.2.1 :=
  va_runVN X.1 hM cw ⟨PicU.blind, recv_fix X hP j hj hc, (pre_call X hP _).2⟩ rfl hn hsize hstack (lv_room hW) hdg hf
theorem r_runSN (X : CX G p m c cc nL s args own) (hP : PS ft G s σ H locs) {host : String} (hM : Met l y ws rm (va_Pc As (PicU ft G σ)) Qc mc ms G.2.2.2.1) (cw : va_CN R s args own index y host bytes maxL ret ws rm mc ms n ∧ (Cond.static y).before args s = true ∧ True) (hn : As.length = n) (hsize : ls.size = nL) (hstack : st0 = As.reverse ++ rest) (hW : (rest.map fun v => v.category).sum ≤ 8) (hdg : decode cc pc = .ok (.invokestatic index, 3)) (hf : cells + mc ≤ R.cells ∧ slots + ms ≤ R.slots) :
    va_Run p l e R s m args below meth c H locs cells slots mc ms (F0 m pc ls st0) rest (Qc As.toArray) G.2.2.2.1 :=
  va_runSN X.1 hM cw (pre_call X hP _) rfl hn hsize hstack (lv_room hW) hdg hf
/-- calls of methods that make cells -/
theorem r_calliM {r0 : Int32} {u0 : ST} (hr : va_Run p l e R s m args below meth c H locs cells slots mc ms (F0 m pc ls st0) rest (va_Qi (fun (r : Int32) (u : ST) => (r, u) = (r0, u0)) (PicU ft G) G.2.2.2.1 a) G.2.2.2.1) (hP : PS ft G s σ H locs)
    (kk : ∀ (H : Heap) (locs : List Loc), PS ft G s u0 H locs → W p l e R s m args below meth c H locs (cells + mc) (slots + ms) Q (F0 m (pc + 3) ls (.int r0 :: rest))) : W p l e R s m args below meth c H locs cells slots Q (F0 m pc ls st0) := by
  refine va_calli hr hP.2 (fun _ _ h => h) (fun _ h => h) fun r u t H1 locs1 ht hvm hw hB hz hk hS => ?_
  cases hw
  exact kk H1 locs1 ⟨by rw [← ht]; exact hB.1, hS⟩
theorem r_callvM {u0 : ST} (hr : va_Run p l e R s m args below meth c H locs cells slots mc ms (F0 m pc ls st0) rest (va_Qv (fun (u : ST) => u = u0) (PicU ft G) G.2.2.2.1 a) G.2.2.2.1) (hP : PS ft G s σ H locs)
    (kk : ∀ (H : Heap) (locs : List Loc), PS ft G s u0 H locs → W p l e R s m args below meth c H locs (cells + mc) (slots + ms) Q (F0 m (pc + 3) ls rest)) : W p l e R s m args below meth c H locs cells slots Q (F0 m pc ls st0) := by
  refine va_callv hr hP.2 (fun _ _ h => h) (fun _ h => h) fun u t H1 locs1 ht hvm hw hB hz hk hS => ?_
  cases hw
  exact kk H1 locs1 ⟨by rw [← ht]; exact hB.1, hS⟩
theorem r_callrM {r0 : Option Nat} {u0 : ST} (hr : va_Run p l e R s m args below meth c H locs cells slots mc ms (F0 m pc ls st0) rest (va_Qq (fun (r : Option Nat) (u : ST) => (r, u) = (r0, u0)) (PicU ft G) G.2.2.2.1 a) G.2.2.2.1) (hP : PS ft G s σ H locs)
    (kk : ∀ (H : Heap) (locs : List Loc), PS ft G s u0 H locs → W p l e R s m args below meth c H locs (cells + mc) (slots + ms) Q (F0 m (pc + 3) ls (va_rf r0 :: rest))) : W p l e R s m args below meth c H locs cells slots Q (F0 m pc ls st0) := by
  refine va_callq hr hP.2 (fun _ _ h => h) (fun _ h => h) fun r u t H1 locs1 ht hvm hw hB hz hk hS => ?_
  cases hw
  exact kk H1 locs1 ⟨by rw [← ht]; exact hB.1, hS⟩
end PRW
theorem m_enterR {l : Launch} {ft : List FC} {G : GT} {σ u0 : ST} {y : MethodName} {cc : ByteArray} {maxL : Nat} {rm : Room} {mc ms : Nat} {As : List Value} {lv : List (Nat × Value)} {rt : FieldType} {r0 : Option Nat} (hrt : (∃ n, rt = .object n) ∨ ∃ t, rt = .array t) (hy : plainName y.cls = true) (hlen : Nat.ble (lg_sl As).length maxL = true) (hlv : lv_args 0 As = lv)
    (body : ∀ (p : Program) (e : Env) (s : State) (m : MethodId) (args : Array Value) (below : List Frame) (meth : Method) (c : Code) (H : Heap) (locs : List Loc) (ls : Array Slot) (Q : State → Prop), CX G p m c cc maxL s args y.cls →
      (∀ (v : Option Nat) (σ' : ST) (H : Heap) (locs : List Loc) (ls : Array Slot) (pc : Nat), decode cc pc = .ok (.areturn, 1) → (v, σ') = (r0, u0) → PS ft G s σ' H locs → W p l e rm s m args below meth c H locs mc ms Q (F0 m pc ls [va_rf v])) →
      PS ft G s σ H locs → lv_has ls maxL lv → W p l e rm s m args below meth c H locs 0 0 Q (F0 m 0 ls [])) : CR l ft G y (ws_ y cc maxL (some rt)) rm mc ms As σ (r0, u0) :=
  m_enter hy hlen hlv fun p e s m below meth c H locs ls X hr hk _ hP hl => body p e s m _ below meth c H locs ls _ X (fun _ _ _ _ _ _ hd he hP' => r_aret X hP' hr hrt hk he hd) hP hl
theorem so2 {α β : Type} {a a' : α} {b b' : β} (h : some (a, b) = some (a', b')) : a = a' ∧ b = b' := by
  have h := Option.some.inj h
  exact ⟨congrArg (fun q => q.1) h, congrArg (fun q => q.2) h⟩
theorem so3 {α β γ : Type} {a a' : α} {b b' : β} {c c' : γ} (h : some (a, b, c) = some (a', b', c')) : a = a' ∧ b = b' ∧ c = c' := by
  have h := Option.some.inj h
  exact ⟨congrArg (fun q => q.1) h, congrArg (fun q => q.2.1) h, congrArg (fun q => q.2.2) h⟩
theorem so4 {α β γ δ : Type} {a a' : α} {b b' : β} {c c' : γ} {d d' : δ} (h : some (a, b, c, d) = some (a', b', c', d')) : a = a' ∧ b = b' ∧ c = c' ∧ d = d' := by
  have h := Option.some.inj h
  exact ⟨congrArg (fun q => q.1) h, congrArg (fun q => q.2.1) h, congrArg (fun q => q.2.2.1) h, congrArg (fun q => q.2.2.2) h⟩
theorem so5 {α β γ δ ε : Type} {a a' : α} {b b' : β} {c c' : γ} {d d' : δ} {f f' : ε} (h : some (a, b, c, d, f) = some (a', b', c', d', f')) : a = a' ∧ b = b' ∧ c = c' ∧ d = d' ∧ f = f' := by
  have h := Option.some.inj h
  exact ⟨congrArg (fun q => q.1) h, congrArg (fun q => q.2.1) h, congrArg (fun q => q.2.2.1) h, congrArg (fun q => q.2.2.2.1) h, congrArg (fun q => q.2.2.2.2) h⟩
