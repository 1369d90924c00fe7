/-! X LAYER: heap rows, calls, ends -/
def xCl (ci : Nat) (C : String) (T : u_T) (N : Nat) (ty : Nat → FieldType) : Prop := xcl[ci]? = some (C, T, N) ∧ (∀ w ∈ u_ws C T N, w ∈ lw_all) ∧ ∀ k, k < N → parseFieldDescriptor (T k).2.2.1 = some (ty k)
/-- the fields of a class have different names -/
def xNd (ci : Nat) : Prop := ∃ (C : String) (T : u_T) (N : Nat), xcl[ci]? = some (C, T, N) ∧ ∀ a, a < N → ∀ b, b < N → a ≠ b → (T a).2.1 ≠ (T b).2.1 ∨ ((T a).1 ≠ (T b).1 ∧ (T a).2.2.2 = true ∧ (T b).2.2.2 = true)
/-- entry idx of class own's pool is field k of class number ci -/
def xF (own : String) (idx ci k : Nat) (ty : FieldType) (fin : Bool) : Prop := ∃ (C : String) (T : u_T) (N : Nat) (ty0 : Nat → FieldType) (ref : String), xCl ci C T N ty0 ∧ k < N ∧ ty0 k = ty ∧ (T k).2.2.2 = fin ∧ (ref = (T k).1 ∨ Cond.sameField ref (T k).1 (T k).2.1 (T k).2.2.1 ∈ lw_all) ∧ (Cond.fieldLink own idx ref (T k).2.1 (T k).2.2.1 ∈ lw_all ∨ ∃ host, Cond.fieldLinkNest own idx ref (T k).2.1 (T k).2.2.1 host ∈ lw_tbl)
/-- a final field, put by its own class's constructor -/
def xFF (own : String) (idx ci k : Nat) (ty : FieldType) : Prop := ∃ (C : String) (T : u_T) (N : Nat) (ty0 : Nat → FieldType), xCl ci C T N ty0 ∧ k < N ∧ ty0 k = ty ∧ (T k).2.2.2 = true ∧ (T k).1 = own ∧ Cond.fieldLink own idx (T k).1 (T k).2.1 (T k).2.2.1 ∈ lw_all
section XH
variable {p : Program} {l : Launch} {e : Env} {R : Room} {s : State} {m : MethodId} {args : Array Value} {below : List Frame} {meth : Method} {c : Code} {s0 : State} {D : va_G} {Q : State → Prop} {cells slots : Nat} {g : xG} {own : String} {cc : ByteArray} {pc q : Nat} {lv : xL} {st : List Value} {H : Heap} {locs : List Loc} {ls : Array Slot}
theorem xC.kn (hC : xC p l s0 s D m args meth c own cc) : va_K D xcl [] s := va_K.moved hC.2.2.2.2.2.1.alike hC.2.2.2.2.2.2.1.2.1
theorem xC.warm (hC : xC p l s0 s D m args meth c own cc) : s0.WarmedH s.vm := hC.2.2.2.2.2.1
theorem xC.hts (hC : xC p l s0 s D m args meth c own cc) : ∀ w ∈ lw_all, w.before args s = true := hC.2.2.2.1
theorem xC.ht0 (hC : xC p l s0 s D m args meth c own cc) : ∃ b0 : Addr, ∀ w ∈ lw_tbl, w.before #[Value.ref b0] s0 = true := by
  obtain ⟨b0, h, -⟩ := hC.2.2.2.2.2.2.1.2.2
  exact ⟨b0, h⟩
theorem xI.obj {n : xN} {a ci : Nat} {fs : List Value} (hI : xI s0 D g H) (hd : n.1 < 1000) (hg : g n = some (a, .inr (ci, fs))) : va_P D xcl [(a, .inr (ci, fs))] H := by
  intro k q hk
  cases k with
  | zero => cases hk; exact (hI.at hd hg).2
  | succ k => cases hk
theorem xI.low (hI : xI s0 D g H) : ∀ a : Nat, a < s0.heap.size → ¬ s0.heap.size ≤ a → H[a]? = s0.heap[a]? := fun a h _ => hI.2.1 a h
/-- an array's cell, of the start or made since -/
theorem xI.arr {n : xN} {a : Nat} {y : FieldType × vp_A} (hC : xC p l s0 s D m args meth c own cc) (hI : xI s0 D g H) (hg : g n = some (a, .inl y)) : ∃ cell : Cell, H[a]? = some cell ∧ s.isArrayOf cell y.1 ∧ cell.vm ≠ .unknown ∧ y.2.1 ≤ cell.slots.size ∧ cell.slots.size.toInt32 = Int32.ofNat y.2.1 ∧ ∀ j : Nat, j < y.2.1 → cell.slots[j]? = some (xav y.2 j) := by
  have hW := hC.warm.alike
  rcases hI.2.2.1 n a _ hg with ⟨-, -, cA, h1, h2, h3⟩ | ⟨-, -, h⟩ | ⟨-, -, h⟩
  · have e : vp_cell cA y.2 = arrV cA y.2.1 (xav y.2) := by
      obtain ⟨t, n, u⟩ := y
      rcases u with f | f | f | f | f <;> first | exact vp_cell_i _ _ _ | exact vp_cell_l _ _ _ | exact vp_cell_f _ _ _ | exact vp_cell_d _ _ _ | exact vp_cell_q _ _ _
    rw [e] at h3
    exact ⟨_, h3, (arrOfT_moved hW h1) _ _, (fun q => by cases q), by rw [arrV_size]; exact Nat.le_refl _, by rw [arrV_size], fun j hj => arrV_read _ _ hj⟩
  · obtain ⟨cell, c1, c2, c3, c4, c5, c6, -⟩ := va_T.kept (va_T.moved hW h) hI.low
    exact ⟨cell, c1, c2, c3, c4, c5, c6⟩
  · exact absurd h id
/-- an object's field, of the start or made since -/
theorem xI.fld {n : xN} {a ci k N : Nat} {fs : List Value} {v : Value} {C : String} {T : u_T} (hC : xC p l s0 s D m args meth c own cc) (hI : xI s0 D g H) (hg : g n = some (a, .inr (ci, fs))) (hc : xcl[ci]? = some (C, T, N)) (hin : ∀ w ∈ u_ws C T N, w ∈ lw_all) (hk : k < N) (hv : fs[k]? = some v) : ∃ (cf : ClassId) (kf : Class) (fi : Nat) (f : Field) (cell : Cell), s.fieldFound? (T k).1 (T k).2.1 (T k).2.2.1 = some (cf, kf, fi, f) ∧ f.isStatic = false ∧ H[a]? = some cell ∧ cell.vm ≠ .unknown ∧ cell.slots[f.slot]? = some v := by
  have hW := hC.warm.alike
  rcases hI.2.2.1 n a _ hg with ⟨-, -, h⟩ | ⟨-, -, r, hr, -, h⟩ | ⟨-, -, h, -⟩
  · obtain ⟨r, h1, cell, q1, q2, q3, q4⟩ := h
    have hr : r = (C, T, N) := Option.some.inj (h1.symm.trans hc)
    subst hr
    obtain ⟨hS, hfc, kC, hkC, hkind⟩ := hC.kn.1 ci _ hc
    obtain ⟨cf, kf, fi, f, hi, hsl⟩ := hS k hk
    refine ⟨cf, kf, fi, f, cell, hi, (u_facts hfc hkC (u_lays hC.hts hin hk) hi).1, q1, by rw [q3]; exact (fun h => by cases h), ?_⟩
    rw [hsl, q4 k hk]
    simp [vp_V, hv]
  · cases hr.symm.trans hc
    obtain ⟨cf, kf, fi, f, cell, c1, c2, c3, c4, c5, -⟩ := va_OF.kept (va_OF.moved hW (h k v hv)) hI.low
    exact ⟨cf, kf, fi, f, cell, c1, c2, c3, c4, c5⟩
  · have h24 := (List.getElem?_eq_some_iff.mp hc).1
    exact absurd h24 (by show ¬ ci < 24; dsimp only at h; omega)
theorem xnestF (hC : xC p l s0 s D m args meth c own cc) {a : String} {i : Nat} {b n d h : String} (hm : Cond.fieldLinkNest a i b n d h ∈ lw_tbl) : (Cond.fieldLinkNest a i b n d h).before args s = true := by
  obtain ⟨b0, h0⟩ := hC.ht0
  exact va_Nw.use rfl (va_Nw.warmF hC.warm (va_Nw.of rfl (h0 _ hm)))
theorem xnestM (hC : xC p l s0 s D m args meth c own cc) {a : String} {i : Nat} {x : MethodName} {h : String} (hm : Cond.methodLinkNest a i x h ∈ lw_tbl) : va_Nw (.methodLinkNest a i x h) s := by
  obtain ⟨b0, h0⟩ := hC.ht0
  exact va_Nw.warmM hC.warm (va_Nw.of rfl (h0 _ hm))
theorem x_get (hC : xC p l s0 s D m args meth c own cc) {idx ci k : Nat} {ty : FieldType} {fin : Bool} {n : xN} {a : Nat} {fs : List Value} {v : Value} (hf : xF own idx ci k ty fin) (d : decode cc pc = .ok (.getfield idx, 3)) (hq : pc + 3 = q) (hg : g n = some (a, .inr (ci, fs))) (hv : fs[k]? = some v) (kk : XW p l e R s m args below meth c s0 D Q cells slots g q lv (v :: st)) : XW p l e R s m args below meth c s0 D Q cells slots g pc lv (.ref a :: st) := by
  subst hq; intro H locs ls hm hI hS hl
  obtain ⟨C, T, N, ty0, ref, hc, hk, -, -, hs, hlk⟩ := hf
  have hsame : ∀ x, s.fieldFound? (T k).1 (T k).2.1 (T k).2.2.1 = some x → s.fieldFound? ref (T k).2.1 (T k).2.2.1 = some x := by
    rcases hs with e | e
    · rw [e]; exact fun _ h => h
    · exact u_same (hC.hts _ e)
  obtain ⟨cf, kf, fi, f, cell, c1, c2, c3, c4, c5⟩ := hI.fld hC hg hc.1 hc.2.1 hk hv
  rcases hlk with h | ⟨host, h⟩
  · exact W.getf hC.1 hC.2.1 hC.2.2.1 (hC.hts _ h) (hsame _ c1) c2 c3 c4 c5 rfl rfl d (kk H locs ls hm hI hS hl)
  · exact va_Wgetf hC.1 hC.2.1 hC.2.2.1 (xnestF hC h) (hsame _ c1) c2 c3 c4 c5 rfl rfl d (kk H locs ls hm hI hS hl)
theorem xap2 {args : Array Value} {s : State} {C O n d O' n' d' : String} (h : (Cond.laysFinal C O n d).before args s = true) (h' : (Cond.laysFinal C O' n' d').before args s = true) {cf kf fi fd cf' kf' fi' fd'} (hi : s.fieldFound? O n d = some (cf, kf, fi, fd)) (hi' : s.fieldFound? O' n' d' = some (cf', kf', fi', fd')) (hne : O ≠ O') : fd.slot ≠ fd'.slot := by
  obtain ⟨c, k, c1, k1, i1, f1, a1, a2, a3, -, -, -, a4, -, d1, a5, a6, -⟩ := Cond.laysFinal_spec h
  obtain ⟨c', k', c2, k2, i2, f2, b1, b2, b3, -, -, -, b4, -, d2, b5, b6, -⟩ := Cond.laysFinal_spec h'
  cases hi.symm.trans a3
  cases hi'.symm.trans b3
  cases a1.symm.trans b1
  intro hs
  rw [hs] at a5
  cases a5.symm.trans b5
  have e : kf.name = kf'.name := a6.symm.trans b6
  obtain ⟨q1, hq1, hn1⟩ := Vm.findClass_spec a4
  obtain ⟨q2, hq2, hn2⟩ := Vm.findClass_spec b4
  have r1 := (State.fieldFound?_spec hi).1
  have r2 := (State.fieldFound?_spec hi').1
  cases r1.symm.trans hq1
  cases r2.symm.trans hq2
  exact hne (hn1.symm.trans (e.trans hn2))
theorem xapart {args : Array Value} {s : State} {D : va_G} {C : String} {T : u_T} {N ci : Nat} {Ts : List Cond} (hts : ∀ w ∈ Ts, w.before args s = true) (hin : ∀ w ∈ u_ws C T N, w ∈ Ts) (ty : Nat → FieldType) (hty : ∀ k, k < N → parseFieldDescriptor (T k).2.2.1 = some (ty k)) (hnm : ∀ a, a < N → ∀ b, b < N → a ≠ b → (T a).2.1 ≠ (T b).2.1 ∨ ((T a).1 ≠ (T b).1 ∧ (T a).2.2.2 = true ∧ (T b).2.2.2 = true)) (hK : va_K D xcl [] s) (hc : xcl[ci]? = some (C, T, N)) : ∀ x y, x < N → y < N → x ≠ y → D.2 ci x ≠ D.2 ci y := by
  intro x y hx hy hne
  obtain ⟨hS, -⟩ := hK.1 ci _ hc
  obtain ⟨_, _, _, fa, hia, ea⟩ := hS x hx
  obtain ⟨_, _, _, fb, hib, eb⟩ := hS y hy
  rw [← ea, ← eb]
  rcases hnm x hx y hy hne with q | ⟨q, qa, qb⟩
  · refine u_apart (u_lays hts hin hx) (u_lays hts hin hy) hia hib ?_
    rw [(State.fieldFound?_type hia (hty x hx)).1, (State.fieldFound?_type hib (hty y hy)).1]
    exact q
  · have l1 := hts _ (hin _ (u_in_lay hx))
    have l2 := hts _ (hin _ (u_in_lay hy))
    unfold u_lay at l1 l2
    rw [if_pos qa] at l1
    rw [if_pos qb] at l2
    exact xap2 l1 l2 hia hib q
theorem xS.put {A : Nat → Prop} {H0 H H1 : Heap} {locs : List Loc} {a k : Nat} (h : va_S A H0 H locs) (z : H1.size = H.size) (oq : ∀ q : Nat, q ≠ a → H1[q]? = H[q]?) (ha : A a) : va_S A H0 H1 (locs ++ [⟨a, k⟩]) := va_S.put h z oq ha
theorem x_put (hC : xC p l s0 s D m args meth c own cc) {idx ci k : Nat} {ty : FieldType} {n : xN} {a : Nat} {fs : List Value} {v : Value} (hf : xF own idx ci k ty false) (hd : xNd ci) (hdy : Nat.blt n.1 1000 = true) (d : decode cc pc = .ok (.putfield idx, 3)) (hq : pc + 3 = q) (hg : g n = some (a, .inr (ci, fs))) (hl0 : Nat.blt k fs.length = true) (hnar : narrow ty v = v) (hfit : fits ty v = true) (kk : XW p l e R s m args below meth c s0 D Q cells slots (xu g n (some (a, .inr (ci, fs.set k v)))) q lv st) : XW p l e R s m args below meth c s0 D Q cells slots g pc lv (v :: .ref a :: st) := by
  subst hq; intro H locs ls hm hI hS hl
  have hl0 : k < fs.length := Nat.le_of_ble_eq_true hl0
  have hdy : n.1 < 1000 := Nat.le_of_ble_eq_true hdy
  obtain ⟨C, T, N, ty0, ref, ⟨hc, hin, hty⟩, hk, ht, hfin, hs, hlk⟩ := hf
  obtain ⟨C', T', N', hc', hnm⟩ := hd
  cases hc.symm.trans hc'
  have hsame : ∀ x, s.fieldFound? (T k).1 (T k).2.1 (T k).2.2.1 = some x → s.fieldFound? ref (T k).2.1 (T k).2.2.1 = some x := by
    rcases hs with e | e
    · rw [e]; exact fun _ h => h
    · exact u_same (hC.hts _ e)
  have hK := hC.kn
  have hts := hC.hts
  have hap := xapart hts hin ty0 hty hnm hK hc
  obtain ⟨r, h1, cell, q1, q2, q3, q4⟩ := (hI.obj hdy hg) 0 _ rfl
  have hr : r = (C, T, N) := Option.some.inj (h1.symm.trans hc)
  subst hr
  obtain ⟨hS', hfc, kC, hkC, hkind⟩ := hK.1 ci _ hc
  obtain ⟨cf, kf, fi, f, hi, hsl⟩ := hS' k hk
  have hlay := hts _ (hin _ (u_in_lay hk))
  unfold u_lay at hlay
  rw [if_neg (by rw [hfin]; decide)] at hlay
  have hst := (u_facts hfc hkC (u_lays hts hin hk) hi).1
  have h6 := u_store hfc hkC hkind hlay hi (hty k hk) (by rw [ht]; exact hnar) (by rw [ht]; exact hfit)
  have fin : ∀ H' : Heap, H'[a]? = some (cell.setSlot f.slot v) → H'.size = H.size → (∀ q, q ≠ a → H'[q]? = H[q]?) → W p l e R s m args below meth c H' (locs ++ [⟨a, f.slot⟩]) cells slots Q (F0 m (pc + 3) ls st) := by
    intro H' e1 e2 e3
    rw [hsl] at e1
    exact kk H' _ ls hm (hI.put hdy hg e2 e3 ⟨_, hc, t_OB.to (V := updV (vp_V fs) k v) ⟨_, e1, q2, q3, t_set q4 hap hk v⟩ (fun j _ => vp_updV_set hl0 v j)⟩) (hS.put e2 e3 (hI.at hdy hg).1) hl
  rcases hlk with h | ⟨host, h⟩
  · exact W.putK hC.1 hC.2.1 (f := f) ⟨hC.2.2.1, hts _ h, ⟨_, _, _, hsame _ hi⟩, hst⟩ (by rw [q2]; exact h6) q1 q3 (by rw [hsl]; exact k2_hasslot (q4 k hk)) rfl rfl d fin
  · exact va_WputK hC.1 hC.2.1 (f := f) hC.2.2.1 (xnestF hC h) (hsame _ hi) hst (by rw [q2]; exact h6) q1 q3 (by rw [hsl]; exact k2_hasslot (q4 k hk)) rfl rfl d fin
theorem x_putF (hC : xC p l s0 s D m args meth c own cc) (hin2 : meth.name = "<init>") {idx ci k : Nat} {ty : FieldType} {n : xN} {a : Nat} {fs : List Value} {v : Value} (hf : xFF own idx ci k ty) (hd : xNd ci) (hdy : Nat.blt n.1 1000 = true) (d : decode cc pc = .ok (.putfield idx, 3)) (hq : pc + 3 = q) (hg : g n = some (a, .inr (ci, fs))) (hl0 : Nat.blt k fs.length = true) (hnar : narrow ty v = v) (hfit : fits ty v = true) (kk : XW p l e R s m args below meth c s0 D Q cells slots (xu g n (some (a, .inr (ci, fs.set k v)))) q lv st) : XW p l e R s m args below meth c s0 D Q cells slots g pc lv (v :: .ref a :: st) := by
  subst hq; intro H locs ls hm hI hS hl
  have hl0 : k < fs.length := Nat.le_of_ble_eq_true hl0
  have hdy : n.1 < 1000 := Nat.le_of_ble_eq_true hdy
  obtain ⟨C, T, N, ty0, ⟨hc, hin, hty⟩, hk, ht, hfin, hdecl, hlk⟩ := hf
  obtain ⟨C', T', N', hc', hnm⟩ := hd
  cases hc.symm.trans hc'
  have hK := hC.kn
  have hts := hC.hts
  have hap := xapart hts hin ty0 hty hnm hK hc
  obtain ⟨r, h1, cell, q1, q2, q3, q4⟩ := (hI.obj hdy hg) 0 _ rfl
  have hr : r = (C, T, N) := Option.some.inj (h1.symm.trans hc)
  subst hr
  obtain ⟨hS', hfc, kC, hkC, hkind⟩ := hK.1 ci _ hc
  obtain ⟨cf, kf, fi, f, hi, hsl⟩ := hS' k hk
  have hlay := hts _ (hin _ (u_in_lay hk))
  unfold u_lay at hlay
  rw [if_pos hfin] at hlay
  have hst := (u_facts hfc hkC (u_lays hts hin hk) hi).1
  have hcf : m.cls = cf := by
    obtain ⟨_, _, c', _, _, _, -, -, hf', -, -, -, hown2, -⟩ := Cond.laysFinal_spec hlay
    have e1 : c' = cf := by have := hi.symm.trans hf'; simp at this; exact this.1.symm
    rw [hdecl] at hown2
    rw [← e1]; exact Option.some.inj (hC.2.2.1.symm.trans hown2)
  have h6 := u_fits hfc hkC hkind (Or.inr hlay) hi (hty k hk) (by rw [ht]; exact hnar) (by rw [ht]; exact hfit)
  refine W.putFinK hC.1 hC.2.1 hC.2.2.1 (hts _ hlk) hi hst hcf hin2 (by rw [q2]; exact h6) q1 q3 (by rw [hsl]; exact k2_hasslot (q4 k hk)) rfl rfl d fun H' e1 e2 e3 => ?_
  rw [hsl] at e1
  exact kk H' _ ls hm (hI.put hdy hg e2 e3 ⟨_, hc, t_OB.to (V := updV (vp_V fs) k v) ⟨_, e1, q2, q3, t_set q4 hap hk v⟩ (fun j _ => vp_updV_set hl0 v j)⟩) (hS.put e2 e3 (hI.at hdy hg).1) hl
theorem x_iald (hC : xC p l s0 s D m args meth c own cc) {n : xN} {a N j : Nat} {i : Int32} {f : Nat → Int32} (d : decode cc pc = .ok (.iaload, 1)) (hq : pc + 1 = q) (hg : g n = some (a, xAi .int N f)) (hi : i = nI j) (hj : j < N) (hN : N < 2 ^ 31) (k : XW p l e R s m args below meth c s0 D Q cells slots g q lv (.int (f j) :: st)) : XW p l e R s m args below meth c s0 D Q cells slots g pc lv (.int i :: .ref a :: st) := by
  subst hq; subst hi; intro H locs ls hm hI hS hl
  obtain ⟨ce, c1, c2, c3, c4, c5, c6⟩ := hI.arr hC hg
  have e : (nI j).toNatClampNeg = j := nI_clamp (by omega)
  have c4 : N ≤ ce.slots.size := c4
  exact W.iald hC.1 hC.2.1 c1 c2 c3 (by rw [e]; rintro (h | h); exact nI_pos (by omega) h; omega) (v := .int (f j)) (by rw [e]; exact c6 j hj) rfl rfl d (k H locs ls hm hI hS hl)
theorem x_bald (hC : xC p l s0 s D m args meth c own cc) {n : xN} {a N j : Nat} {i : Int32} {f : Nat → Int32} (d : decode cc pc = .ok (.baload, 1)) (hq : pc + 1 = q) (hg : g n = some (a, xAi .byte N f)) (hi : i = nI j) (hj : j < N) (hN : N < 2 ^ 31) (k : XW p l e R s m args below meth c s0 D Q cells slots g q lv (.int (f j) :: st)) : XW p l e R s m args below meth c s0 D Q cells slots g pc lv (.int i :: .ref a :: st) := by
  subst hq; subst hi; intro H locs ls hm hI hS hl
  obtain ⟨ce, c1, c2, c3, c4, c5, c6⟩ := hI.arr hC hg
  have e : (nI j).toNatClampNeg = j := nI_clamp (by omega)
  have c4 : N ≤ ce.slots.size := c4
  exact W.bald hC.1 hC.2.1 c1 c2 c3 (by rw [e]; rintro (h | h); exact nI_pos (by omega) h; omega) (v := .int (f j)) (by rw [e]; exact c6 j hj) rfl rfl d (k H locs ls hm hI hS hl)
theorem x_zald (hC : xC p l s0 s D m args meth c own cc) {n : xN} {a N j : Nat} {i : Int32} {f : Nat → Int32} (d : decode cc pc = .ok (.baload, 1)) (hq : pc + 1 = q) (hg : g n = some (a, xAi .boolean N f)) (hi : i = nI j) (hj : j < N) (hN : N < 2 ^ 31) (k : XW p l e R s m args below meth c s0 D Q cells slots g q lv (.int (f j) :: st)) : XW p l e R s m args below meth c s0 D Q cells slots g pc lv (.int i :: .ref a :: st) := by
  subst hq; subst hi; intro H locs ls hm hI hS hl
  obtain ⟨ce, c1, c2, c3, c4, c5, c6⟩ := hI.arr hC hg
  have e : (nI j).toNatClampNeg = j := nI_clamp (by omega)
  have c4 : N ≤ ce.slots.size := c4
  exact W.zald hC.1 hC.2.1 c1 c2 c3 (by rw [e]; rintro (h | h); exact nI_pos (by omega) h; omega) (v := .int (f j)) (by rw [e]; exact c6 j hj) rfl rfl d (k H locs ls hm hI hS hl)
theorem x_cald (hC : xC p l s0 s D m args meth c own cc) {n : xN} {a N j : Nat} {i : Int32} {f : Nat → Int32} (d : decode cc pc = .ok (.caload, 1)) (hq : pc + 1 = q) (hg : g n = some (a, xAi .char N f)) (hi : i = nI j) (hj : j < N) (hN : N < 2 ^ 31) (k : XW p l e R s m args below meth c s0 D Q cells slots g q lv (.int (f j) :: st)) : XW p l e R s m args below meth c s0 D Q cells slots g pc lv (.int i :: .ref a :: st) := by
  subst hq; subst hi; intro H locs ls hm hI hS hl
  obtain ⟨ce, c1, c2, c3, c4, c5, c6⟩ := hI.arr hC hg
  have e : (nI j).toNatClampNeg = j := nI_clamp (by omega)
  have c4 : N ≤ ce.slots.size := c4
  exact W.cald hC.1 hC.2.1 c1 c2 c3 (by rw [e]; rintro (h | h); exact nI_pos (by omega) h; omega) (v := .int (f j)) (by rw [e]; exact c6 j hj) rfl rfl d (k H locs ls hm hI hS hl)
theorem x_lald (hC : xC p l s0 s D m args meth c own cc) {n : xN} {a N j : Nat} {i : Int32} {f : Nat → Int64} (d : decode cc pc = .ok (.laload, 1)) (hq : pc + 1 = q) (hg : g n = some (a, xAl N f)) (hi : i = nI j) (hj : j < N) (hN : N < 2 ^ 31) (k : XW p l e R s m args below meth c s0 D Q cells slots g q lv (.long (f j) :: st)) : XW p l e R s m args below meth c s0 D Q cells slots g pc lv (.int i :: .ref a :: st) := by
  subst hq; subst hi; intro H locs ls hm hI hS hl
  obtain ⟨ce, c1, c2, c3, c4, c5, c6⟩ := hI.arr hC hg
  have e : (nI j).toNatClampNeg = j := nI_clamp (by omega)
  have c4 : N ≤ ce.slots.size := c4
  exact W.lald hC.1 hC.2.1 c1 c2 c3 (by rw [e]; rintro (h | h); exact nI_pos (by omega) h; omega) (v := .long (f j)) (by rw [e]; exact c6 j hj) rfl rfl d (k H locs ls hm hI hS hl)
theorem x_aald (hC : xC p l s0 s D m args meth c own cc) {n : xN} {a N j : Nat} {i : Int32} {f : Nat → Option Nat} {ty : FieldType} (d : decode cc pc = .ok (.aaload, 1)) (hq : pc + 1 = q) (hg : g n = some (a, xAr ty N f)) (hi : i = nI j) (hj : j < N) (hN : N < 2 ^ 31) (hty : ty.isReference = true) (k : XW p l e R s m args below meth c s0 D Q cells slots g q lv (va_rf (f j) :: st)) : XW p l e R s m args below meth c s0 D Q cells slots g pc lv (.int i :: .ref a :: st) := by
  subst hq; subst hi; intro H locs ls hm hI hS hl
  obtain ⟨ce, c1, c2, c3, c4, c5, c6⟩ := hI.arr hC hg
  have e : (nI j).toNatClampNeg = j := nI_clamp (by omega)
  have c4 : N ≤ ce.slots.size := c4
  exact W.aald hC.1 hC.2.1 c1 c2 hty c3 (by rw [e]; rintro (h | h); exact nI_pos (by omega) h; omega) (v := va_rf (f j)) (by rw [e]; exact c6 j hj) rfl rfl d (k H locs ls hm hI hS hl)
theorem x_iast (hC : xC p l s0 s D m args meth c own cc) {n : xN} {a N j : Nat} {i : Int32} {x : Int32} {f : Nat → Int32} (d : decode cc pc = .ok (.iastore, 1)) (hq : pc + 1 = q) (hdy : Nat.blt n.1 1000 = true) (hg : g n = some (a, xAi .int N f)) (hi : i = nI j) (hj : j < N) (hN : N < 2 ^ 31) (k : XW p l e R s m args below meth c s0 D Q cells slots (xu g n (some (a, xAi .int N (upd f j x)))) q lv st) : XW p l e R s m args below meth c s0 D Q cells slots g pc lv (.int x :: .int i :: .ref a :: st) := by
  subst hq; subst hi; intro H locs ls hm hI hS hl
  have hdy : n.1 < 1000 := Nat.le_of_ble_eq_true hdy
  obtain ⟨cA, h1, h2, h3⟩ := (hI.at hdy hg).2
  have hin : vp_in (nI j) N := vp_in_nI hj hN
  have e : (nI j).toNatClampNeg = j := nI_clamp (by omega)
  have h1' : ArrOfT s cA _ := arrOfT_moved hC.warm.alike h1
  refine W.iast hC.1 hC.2.1 h3 (h1' N (fun j => .int (f j))) (fun q => by cases q) (by show ¬ (nI j < 0 ∨ (arrV _ _ _).slots.size ≤ _); rw [arrV_size]; exact hin) rfl rfl d fun H1 e1 z oq => ?_
  refine k H1 _ ls hm (hI.put hdy hg z oq ⟨cA, h1, h2, ?_⟩) (hS.put z oq (hI.at hdy hg).1) hl
  rw [e1, e]
  show some ((vp_cell _ _).setSlot _ _) = some (vp_cell _ _)
  rw [vp_cell_i, vp_cell_i, arrV_store]
  congr 2
  funext q
  by_cases hq : q = j
  · subst hq
    simp [updV, upd, vp_nar]
    try rfl
  · simp [updV, upd, hq]
theorem x_bast (hC : xC p l s0 s D m args meth c own cc) {n : xN} {a N j : Nat} {i : Int32} {x : Int32} {f : Nat → Int32} (d : decode cc pc = .ok (.bastore, 1)) (hq : pc + 1 = q) (hdy : Nat.blt n.1 1000 = true) (hg : g n = some (a, xAi .byte N f)) (hi : i = nI j) (hj : j < N) (hN : N < 2 ^ 31) (k : XW p l e R s m args below meth c s0 D Q cells slots (xu g n (some (a, xAi .byte N (upd f j (vp_nar .byte x))))) q lv st) : XW p l e R s m args below meth c s0 D Q cells slots g pc lv (.int x :: .int i :: .ref a :: st) := by
  subst hq; subst hi; intro H locs ls hm hI hS hl
  have hdy : n.1 < 1000 := Nat.le_of_ble_eq_true hdy
  obtain ⟨cA, h1, h2, h3⟩ := (hI.at hdy hg).2
  have hin : vp_in (nI j) N := vp_in_nI hj hN
  have e : (nI j).toNatClampNeg = j := nI_clamp (by omega)
  have h1' : ArrOfT s cA _ := arrOfT_moved hC.warm.alike h1
  refine W.bast hC.1 hC.2.1 h3 (h1' N (fun j => .int (f j))) (fun q => by cases q) (by show ¬ (nI j < 0 ∨ (arrV _ _ _).slots.size ≤ _); rw [arrV_size]; exact hin) rfl rfl d fun H1 e1 z oq => ?_
  refine k H1 _ ls hm (hI.put hdy hg z oq ⟨cA, h1, h2, ?_⟩) (hS.put z oq (hI.at hdy hg).1) hl
  rw [e1, e]
  show some ((vp_cell _ _).setSlot _ _) = some (vp_cell _ _)
  rw [vp_cell_i, vp_cell_i, arrV_store]
  congr 2
  funext q
  by_cases hq : q = j
  · subst hq
    simp [updV, upd, vp_nar]
    try rfl
  · simp [updV, upd, hq]
theorem x_zast (hC : xC p l s0 s D m args meth c own cc) {n : xN} {a N j : Nat} {i : Int32} {x : Int32} {f : Nat → Int32} (d : decode cc pc = .ok (.bastore, 1)) (hq : pc + 1 = q) (hdy : Nat.blt n.1 1000 = true) (hg : g n = some (a, xAi .boolean N f)) (hi : i = nI j) (hj : j < N) (hN : N < 2 ^ 31) (k : XW p l e R s m args below meth c s0 D Q cells slots (xu g n (some (a, xAi .boolean N (upd f j (vp_nar .boolean x))))) q lv st) : XW p l e R s m args below meth c s0 D Q cells slots g pc lv (.int x :: .int i :: .ref a :: st) := by
  subst hq; subst hi; intro H locs ls hm hI hS hl
  have hdy : n.1 < 1000 := Nat.le_of_ble_eq_true hdy
  obtain ⟨cA, h1, h2, h3⟩ := (hI.at hdy hg).2
  have hin : vp_in (nI j) N := vp_in_nI hj hN
  have e : (nI j).toNatClampNeg = j := nI_clamp (by omega)
  have h1' : ArrOfT s cA _ := arrOfT_moved hC.warm.alike h1
  refine W.zast hC.1 hC.2.1 h3 (h1' N (fun j => .int (f j))) (fun q => by cases q) (by show ¬ (nI j < 0 ∨ (arrV _ _ _).slots.size ≤ _); rw [arrV_size]; exact hin) rfl rfl d fun H1 e1 z oq => ?_
  refine k H1 _ ls hm (hI.put hdy hg z oq ⟨cA, h1, h2, ?_⟩) (hS.put z oq (hI.at hdy hg).1) hl
  rw [e1, e]
  show some ((vp_cell _ _).setSlot _ _) = some (vp_cell _ _)
  rw [vp_cell_i, vp_cell_i, arrV_store]
  congr 2
  funext q
  by_cases hq : q = j
  · subst hq
    simp [updV, upd, vp_nar]
    try rfl
  · simp [updV, upd, hq]
theorem x_cast (hC : xC p l s0 s D m args meth c own cc) {n : xN} {a N j : Nat} {i : Int32} {x : Int32} {f : Nat → Int32} (d : decode cc pc = .ok (.castore, 1)) (hq : pc + 1 = q) (hdy : Nat.blt n.1 1000 = true) (hg : g n = some (a, xAi .char N f)) (hi : i = nI j) (hj : j < N) (hN : N < 2 ^ 31) (k : XW p l e R s m args below meth c s0 D Q cells slots (xu g n (some (a, xAi .char N (upd f j (vp_nar .char x))))) q lv st) : XW p l e R s m args below meth c s0 D Q cells slots g pc lv (.int x :: .int i :: .ref a :: st) := by
  subst hq; subst hi; intro H locs ls hm hI hS hl
  have hdy : n.1 < 1000 := Nat.le_of_ble_eq_true hdy
  obtain ⟨cA, h1, h2, h3⟩ := (hI.at hdy hg).2
  have hin : vp_in (nI j) N := vp_in_nI hj hN
  have e : (nI j).toNatClampNeg = j := nI_clamp (by omega)
  have h1' : ArrOfT s cA _ := arrOfT_moved hC.warm.alike h1
  refine W.cast hC.1 hC.2.1 h3 (h1' N (fun j => .int (f j))) (fun q => by cases q) (by show ¬ (nI j < 0 ∨ (arrV _ _ _).slots.size ≤ _); rw [arrV_size]; exact hin) rfl rfl d fun H1 e1 z oq => ?_
  refine k H1 _ ls hm (hI.put hdy hg z oq ⟨cA, h1, h2, ?_⟩) (hS.put z oq (hI.at hdy hg).1) hl
  rw [e1, e]
  show some ((vp_cell _ _).setSlot _ _) = some (vp_cell _ _)
  rw [vp_cell_i, vp_cell_i, arrV_store]
  congr 2
  funext q
  by_cases hq : q = j
  · subst hq
    simp [updV, upd, vp_nar]
    try rfl
  · simp [updV, upd, hq]
theorem x_last (hC : xC p l s0 s D m args meth c own cc) {n : xN} {a N j : Nat} {i : Int32} {x : Int64} {f : Nat → Int64} (d : decode cc pc = .ok (.lastore, 1)) (hq : pc + 1 = q) (hdy : Nat.blt n.1 1000 = true) (hg : g n = some (a, xAl N f)) (hi : i = nI j) (hj : j < N) (hN : N < 2 ^ 31) (k : XW p l e R s m args below meth c s0 D Q cells slots (xu g n (some (a, xAl N (vp_updL f j x)))) q lv st) : XW p l e R s m args below meth c s0 D Q cells slots g pc lv (.long x :: .int i :: .ref a :: st) := by
  subst hq; subst hi; intro H locs ls hm hI hS hl
  have hdy : n.1 < 1000 := Nat.le_of_ble_eq_true hdy
  obtain ⟨cA, h1, h2, h3⟩ := (hI.at hdy hg).2
  have hin : vp_in (nI j) N := vp_in_nI hj hN
  have e : (nI j).toNatClampNeg = j := nI_clamp (by omega)
  have h1' : ArrOfT s cA _ := arrOfT_moved hC.warm.alike h1
  refine W.last hC.1 hC.2.1 h3 (h1' N (fun j => .long (f j))) (fun q => by cases q) (by show ¬ (nI j < 0 ∨ (arrV _ _ _).slots.size ≤ _); rw [arrV_size]; exact hin) rfl rfl d fun H1 e1 z oq => ?_
  refine k H1 _ ls hm (hI.put hdy hg z oq ⟨cA, h1, h2, ?_⟩) (hS.put z oq (hI.at hdy hg).1) hl
  rw [e1, e]
  show some ((vp_cell _ _).setSlot _ _) = some (vp_cell _ _)
  rw [vp_cell_l, vp_cell_l, arrV_store]
  congr 2
  funext q
  by_cases hq : q = j
  · subst hq
    simp [updV, vp_updL, vp_nar]
    try rfl
  · simp [updV, vp_updL, hq]
theorem x_alen (hC : xC p l s0 s D m args meth c own cc) {n : xN} {a : Nat} {y : FieldType × vp_A} (d : decode cc pc = .ok (.arraylength, 1)) (hq : pc + 1 = q) (hg : g n = some (a, .inl y)) (k : XW p l e R s m args below meth c s0 D Q cells slots g q lv (.int (nI y.2.1) :: st)) : XW p l e R s m args below meth c s0 D Q cells slots g pc lv (.ref a :: st) := by
  subst hq; intro H locs ls hm hI hS hl
  obtain ⟨ce, c1, c2, c3, c4, c5, c6⟩ := hI.arr hC hg
  exact W.alen hC.1 hC.2.1 c1 c2 c5 rfl rfl d (k H locs ls hm hI hS hl)
theorem xS.new {H1 : Heap} (hS : va_S (fun q => s0.heap.size ≤ q) s.heap H locs) (hz : H.size ≤ H1.size) (ho : ∀ q : Nat, q < H.size → H1[q]? = H[q]?) : va_S (fun q => s0.heap.size ≤ q) s.heap H1 locs :=
  ⟨Nat.le_trans hS.1 hz, fun q h1 h2 => (ho q (Nat.lt_of_lt_of_le h1 hS.1)).trans (hS.2.1 q h1 h2), hS.2.2⟩
theorem x_new (hC : xC p l s0 s D m args meth c own cc) {idx ci N : Nat} {C : String} {T : u_T} {ty : Nat → FieldType} {fs : List Value} (n : xN) (hc : xCl ci C T N ty) (hcl : Cond.classLink own idx C ∈ lw_all) (hins : Cond.instantiable C N ∈ lw_all) (hini : Cond.initialized C ∈ lw_all) (d : decode cc pc = .ok (.new idx, 3)) (hq : pc + 3 = q) (hdy : Nat.blt n.1 1000 = true) (hn : g n = none) (hfs : ∀ j, j < N → defaultValue (ty j) = vp_V fs j) (hcells : cells + 1 ≤ R.cells) (hslots : slots + N ≤ R.slots) (k : ∀ a : Nat, XW p l e R s m args below meth c s0 D Q (cells + 1) (slots + N) (xu g n (some (a, .inr (ci, fs)))) q lv (.ref a :: st)) : XW p l e R s m args below meth c s0 D Q cells slots g pc lv st := by
  subst hq; intro H locs ls hm hI hS hl
  have hKn := hC.kn.1 ci _ hc.1
  refine W.newcK hC.1 hC.2.1 hC.2.2.1 (hC.hts _ hcl) (hC.hts _ hins) (hC.hts _ hini) rfl d hcells hslots hKn.2.1 rfl fun H1 kC hkC e1 z1 o1 => ?_
  exact k H.size H1 locs ls hm (hI.new (Nat.le_of_ble_eq_true hdy) hn (Nat.le_refl _) (by omega) o1 ⟨_, hc.1, (u_born ty hC.hts hc.2.1 hKn hkC e1 hc.2.2).to hfs⟩) (xS.new hS (by omega) o1) hl
theorem x_newa (hC : xC p l s0 s D m args meth c own cc) {at0 : ArrayType} {i : Int32} {N : Nat} {x : vp_A} (n : xN) (harr : Cond.arrayClass (newarray.typeOf at0) ∈ lw_all) (d : decode cc pc = .ok (.newarray at0, 2)) (hq : pc + 2 = q) (hdy : Nat.blt n.1 1000 = true) (hn : g n = none) (hi : i = nI N) (hN : N < 2 ^ 20) (hx : ∀ cA : ClassId, vp_cell cA x = arrV cA N (fun _ => defaultValue (newarray.typeOf at0))) (hcells : cells + 1 ≤ R.cells) (hslots : slots + N ≤ R.slots) (k : ∀ a : Nat, XW p l e R s m args below meth c s0 D Q (cells + 1) (slots + N) (xu g n (some (a, .inl (newarray.typeOf at0, x)))) q lv (.ref a :: st)) : XW p l e R s m args below meth c s0 D Q cells slots g pc lv (.int i :: st) := by
  subst hq; subst hi; intro H locs ls hm hI hS hl
  have hb : componentBytes (newarray.typeOf at0) ≤ 8 := by cases at0 <;> decide
  have hb2 : N * componentBytes (newarray.typeOf at0) ≤ N * 8 := Nat.mul_le_mul_left _ hb
  refine va_newaK hC.1 hC.2.1 (hC.hts _ harr) rfl d rfl (nI_pos (by omega)) (nI_clamp (by omega)) (by omega) hcells hslots rfl fun H1 cA e1 z1 o1 hAr hNm => ?_
  have hW := hC.warm.alike
  refine k H.size H1 locs ls hm (hI.new (Nat.le_of_ble_eq_true hdy) hn (Nat.le_refl _) (by omega) o1 ⟨cA, arrOfT_moved hW.symm hAr, va_RA.moved hW.symm (by cases at0 <;> exact hNm), ?_⟩) (xS.new hS (by omega) o1) hl
  rw [e1, hx]
theorem x_anew (hC : xC p l s0 s D m args meth c own cc) {idx : Nat} {C : String} {i : Int32} {N : Nat} (n : xN) (hcl : Cond.classLink own idx C ∈ lw_all) (hao : Cond.arrayOver (.object C) ∈ lw_tbl) (d : decode cc pc = .ok (.anewarray idx, 3)) (hq : pc + 3 = q) (hdy : Nat.blt n.1 1000 = true) (hn : g n = none) (hi : i = nI N) (hN : N < 2 ^ 20) (hcells : cells + 1 ≤ R.cells) (hslots : slots + N ≤ R.slots) (k : ∀ a : Nat, XW p l e R s m args below meth c s0 D Q (cells + 1) (slots + N) (xu g n (some (a, xAr (.object C) N (fun _ => none)))) q lv (.ref a :: st)) : XW p l e R s m args below meth c s0 D Q cells slots g pc lv (.int i :: st) := by
  subst hq; subst hi; intro H locs ls hm hI hS hl
  obtain ⟨b0, h0⟩ := hC.ht0
  have hW := hC.warm.alike
  have hover : va_AO C s := va_AO.moved hW (va_AO.of (h0 _ hao))
  have hcl0 : (nI N).toNatClampNeg = N := nI_clamp (by omega)
  refine W.anew hC.1 hC.2.1 hC.2.2.1 (hC.hts _ hcl) (va_AO.use hover) rfl d rfl (nI_pos (by omega)) (by rw [hcl0]; omega) hcells (by rw [hcl0]; exact hslots) fun cA kA comp f1 f2 f3 f4 => ?_
  rw [hcl0]
  generalize hH1 : H.push ({ cls := cA, slots := Array.replicate N .null, vm := .none } : Cell) = H1
  have z1 : H1.size = H.size + 1 := by rw [← hH1, Array.size_push]
  have e1 : H1[H.size]? = some (arrV cA N (fun _ => .null)) := by rw [← hH1, Array.getElem?_push_size, ← arrV_new]
  have o1 : ∀ q : Nat, q < H.size → H1[q]? = H[q]? := fun q hq => by rw [← hH1, Array.getElem?_push, if_neg (Nat.ne_of_lt hq)]
  have hAr : ArrOfT s cA (.object C) := fun N z => ⟨(fun k h => by cases h), kA, f2, comp, f3⟩
  have hRA : va_RA s cA (.object C) := ⟨kA, comp, f2, f3, f4, f1⟩
  exact k H.size H1 locs ls hm (hI.new (Nat.le_of_ble_eq_true hdy) hn (Nat.le_refl _) (by omega) o1 ⟨cA, arrOfT_moved hW.symm hAr, va_RA.moved hW.symm hRA, e1⟩) (xS.new hS (by omega) o1) hl
/-- the class name of a cell -/
def xnm : xE → String
  | .inl y => "[" ++ y.1.toString
  | .inr o => match xcl[o.1]? with
    | some r => r.1
    | none => ""
theorem xat.cls {a : Nat} {x : xE} (hC : xC p l s0 s D m args meth c own cc) (h : xat s0 D a x H) : ∃ cell : Cell, H[a]? = some cell ∧ cell.vm = .none ∧ s.vm.findClass (xnm x) = some cell.cls := by
  have hW := hC.warm.alike
  cases x with
  | inl y =>
    obtain ⟨cA, h1, h2, h3⟩ := h
    have h4 := h2.moved hW
    have e : ∃ z, vp_cell cA y.2 = arrV cA y.2.1 z := by
      obtain ⟨t, n, u⟩ := y
      rcases u with f | f | f | f | f <;> first | exact ⟨_, vp_cell_i _ _ _⟩ | exact ⟨_, vp_cell_l _ _ _⟩ | exact ⟨_, vp_cell_f _ _ _⟩ | exact ⟨_, vp_cell_d _ _ _⟩ | exact ⟨_, vp_cell_q _ _ _⟩
    obtain ⟨z, ez⟩ := e
    refine ⟨_, h3, by rw [ez]; rfl, ?_⟩
    rw [ez]
    show s.vm.findClass ("[" ++ y.1.toString) = some cA
    obtain ⟨t, u⟩ := y
    cases t with
    | object C => exact h4.choose_spec.choose_spec.2.2.2
    | _ => exact h4
  | inr o =>
    obtain ⟨r, h1, cell, q1, q2, q3, q4⟩ := h
    have e : xnm (.inr o) = r.1 := by simp only [xnm, h1]
    refine ⟨cell, q1, q3, ?_⟩
    rw [e, q2]
    exact (hC.kn.1 o.1 r h1).2.1
theorem xat.recv {a : Nat} {x : xE} (hC : xC p l s0 s D m args meth c own cc) (h : xat s0 D a x H) : ∃ cell : Cell, H[a]? = some cell ∧ cell.vm.isStatics = false ∧ s.vm.findClass (xnm x) = some cell.cls := by
  obtain ⟨cell, h1, h2, h3⟩ := h.cls hC
  exact ⟨cell, h1, by rw [h2]; rfl, h3⟩
theorem xI.recv {n : xN} {a ci : Nat} {fs : List Value} (hC : xC p l s0 s D m args meth c own cc) (hI : xI s0 D g H) (hg : g n = some (a, .inr (ci, fs))) (hok : Nat.blt ci 24 = true) : ∃ cell : Cell, H[a]? = some cell ∧ cell.vm.isStatics = false ∧ s.vm.findClass (xnm (.inr (ci, fs))) = some cell.cls := by
  rcases hI.2.2.1 n a _ hg with ⟨-, -, h⟩ | ⟨-, -, r, hr, h, -⟩ | ⟨-, -, h, -⟩
  · exact h.recv hC
  · obtain ⟨cell, c1, c2, c3, -⟩ := va_O.kept (va_O.moved hC.warm.alike h) hI.low
    have e : xnm (.inr (ci, fs)) = r.1 := by simp only [xnm, hr]
    exact ⟨cell, c1, c2, by rw [e]; exact c3⟩
  · exact absurd (Nat.le_of_ble_eq_true hok : ci + 1 ≤ 24) (by dsimp only at h; omega)
theorem xI.ci {n : xN} {a ci : Nat} {fs : List Value} (hI : xI s0 D g H) (hg : g n = some (a, .inr (ci, fs))) (hok : Nat.blt ci 24 = true) : ∃ r : vw_C, xcl[ci]? = some r := by
  rcases hI.2.2.1 n a _ hg with ⟨-, -, r, h, -⟩ | ⟨-, -, r, hr, -⟩ | ⟨-, -, h, -⟩
  · exact ⟨r, h⟩
  · exact ⟨r, hr⟩
  · exact absurd (Nat.le_of_ble_eq_true hok : ci + 1 ≤ 24) (by dsimp only at h; omega)
theorem xcastable (hC : xC p l s0 s D m args meth c own cc) {A B : String} (h : Cond.castable A B ∈ lw_tbl) : va_Nw (.castable A B) s := by
  obtain ⟨b0, h0⟩ := hC.ht0
  exact va_Nw.warmC hC.warm (va_Nw.of rfl (h0 _ h))
theorem x_castn (hC : xC p l s0 s D m args meth c own cc) {idx : Nat} (d : decode cc pc = .ok (.checkcast idx, 3)) (hq : pc + 3 = q) (k : XW p l e R s m args below meth c s0 D Q cells slots g q lv (.null :: st)) : XW p l e R s m args below meth c s0 D Q cells slots g pc lv (.null :: st) := by
  subst hq; intro H locs ls hm hI hS hl; exact lv_castN hC.1 hC.2.1 d (k H locs ls hm hI hS hl)
theorem x_castY (hC : xC p l s0 s D m args meth c own cc) {idx a : Nat} {n : xN} {ci : Nat} {fs : List Value} {nm : String} (hlk : Cond.classLink own idx nm ∈ lw_all) (hca : Cond.castable (xnm (.inr (ci, fs))) nm ∈ lw_tbl) (d : decode cc pc = .ok (.checkcast idx, 3)) (hq : pc + 3 = q) (hg : g n = some (a, .inr (ci, fs))) (k : XW p l e R s m args below meth c s0 D Q cells slots g q lv (.ref a :: st)) (hok : Nat.blt ci 24 = true := by rfl) : XW p l e R s m args below meth c s0 D Q cells slots g pc lv (.ref a :: st) := by
  subst hq; intro H locs ls hm hI hS hl
  exact va_castY hC.1 hC.2.1 hC.2.2.1 (hC.hts _ hlk) (xcastable hC hca) (hI.recv hC hg hok) d (k H locs ls hm hI hS hl)
theorem x_castS (hC : xC p l s0 s D m args meth c own cc) {idx a ci : Nat} {n : xN} {fs : List Value} {nm : String} (hlk : Cond.classLink own idx nm ∈ lw_all) (hca : xnm (.inr (ci, fs)) = nm) (d : decode cc pc = .ok (.checkcast idx, 3)) (hq : pc + 3 = q) (hg : g n = some (a, .inr (ci, fs))) (k : XW p l e R s m args below meth c s0 D Q cells slots g q lv (.ref a :: st)) (hok : Nat.blt ci 24 = true := by rfl) : XW p l e R s m args below meth c s0 D Q cells slots g pc lv (.ref a :: st) := by
  subst hq; intro H locs ls hm hI hS hl
  obtain ⟨r, h1⟩ := hI.ci hg hok
  have e : xnm (.inr (ci, fs)) = r.1 := by simp only [xnm, h1]
  have e2 : r.1 = nm := e.symm.trans hca
  exact va_castS hC.1 hC.2.1 hC.2.2.1 (hC.hts _ hlk) (by rw [← e2]; exact (hC.kn.1 ci r h1).2) (by rw [← hca]; exact hI.recv hC hg hok) d (k H locs ls hm hI hS hl)
theorem x_castA (hC : xC p l s0 s D m args meth c own cc) {idx a : Nat} {n : xN} {y : FieldType × vp_A} {nm : String} (hlk : Cond.classLink own idx nm ∈ lw_all) (hca : "[" ++ y.1.toString = nm) (d : decode cc pc = .ok (.checkcast idx, 3)) (hq : pc + 3 = q) (hdy : Nat.blt n.1 1000 = true) (hg : g n = some (a, .inl y)) (k : XW p l e R s m args below meth c s0 D Q cells slots g q lv (.ref a :: st)) : XW p l e R s m args below meth c s0 D Q cells slots g pc lv (.ref a :: st) := by
  subst hq; subst hca; intro H locs ls hm hI hS hl
  obtain ⟨cA, h1, h2, h3⟩ := (hI.at (Nat.le_of_ble_eq_true hdy) hg).2
  have h4 := h2.moved hC.warm.alike
  have hP : va_P D xcl [(a, .inl (cA, y.2))] H := fun k q hk => by
    cases k with
    | zero => cases hk; exact h3
    | succ k => cases hk
  refine va_castA hC.1 hC.2.1 hC.2.2.1 (hC.hts _ hlk) hP 0 rfl ?_ d (k H locs ls hm hI hS hl)
  obtain ⟨t, u⟩ := y
  cases t with
  | object C => exact h4.choose_spec.choose_spec.2.2.2
  | _ => exact h4
/-- instanceof of the very class: yes -/
theorem x_instS (hC : xC p l s0 s D m args meth c own cc) {idx a ci : Nat} {n : xN} {fs : List Value} {nm : String} (hlk : Cond.classLink own idx nm ∈ lw_all) (hca : xnm (.inr (ci, fs)) = nm) (d : decode cc pc = .ok (.instanceof idx, 3)) (hq : pc + 3 = q) (hg : g n = some (a, .inr (ci, fs))) (k : XW p l e R s m args below meth c s0 D Q cells slots g q lv (.int 1 :: st)) (hok : Nat.blt ci 24 = true := by rfl) : XW p l e R s m args below meth c s0 D Q cells slots g pc lv (.ref a :: st) := by
  subst hq; intro H locs ls hm hI hS hl
  obtain ⟨r, h1⟩ := hI.ci hg hok
  have e : xnm (.inr (ci, fs)) = r.1 := by simp only [xnm, h1]
  have e2 : r.1 = nm := e.symm.trans hca
  exact va_instS hC.1 hC.2.1 hC.2.2.1 (hC.hts _ hlk) (by rw [← e2]; exact (hC.kn.1 ci r h1).2) (by rw [← hca]; exact hI.recv hC hg hok) d (k H locs ls hm hI hS hl)
theorem x_aastn (hC : xC p l s0 s D m args meth c own cc) {n : xN} {a N j : Nat} {i : Int32} {C : String} {f : Nat → Option Nat} (d : decode cc pc = .ok (.aastore, 1)) (hq : pc + 1 = q) (hdy : Nat.blt n.1 1000 = true) (hg : g n = some (a, xAr (.object C) N f)) (hi : i = nI j) (hj : j < N) (hN : N < 2 ^ 31) (k : XW p l e R s m args below meth c s0 D Q cells slots (xu g n (some (a, xAr (.object C) N (va_up f j none)))) q lv st) : XW p l e R s m args below meth c s0 D Q cells slots g pc lv (.null :: .int i :: .ref a :: st) := by
  subst hq; subst hi; intro H locs ls hm hI hS hl
  have hdy : n.1 < 1000 := Nat.le_of_ble_eq_true hdy
  obtain ⟨cA, h1, h2, h3⟩ := (hI.at hdy hg).2
  have hin : vp_in (nI j) N := vp_in_nI hj hN
  have e : (nI j).toNatClampNeg = j := nI_clamp (by omega)
  have h1' : ArrOfT s cA _ := arrOfT_moved hC.warm.alike h1
  refine va_WaastN hC.1 hC.2.1 h3 (h1' N (fun j => va_rf (f j))) (fun q => by cases q) (by show ¬ (nI j < 0 ∨ (arrV _ _ _).slots.size ≤ _); rw [arrV_size]; exact hin) rfl rfl d fun H1 e1 z oq => ?_
  refine k H1 _ ls hm (hI.put hdy hg z oq ⟨cA, h1, h2, ?_⟩) (hS.put z oq (hI.at hdy hg).1) hl
  rw [e1, e]
  show some ((vp_cell _ _).setSlot _ _) = some (vp_cell _ _)
  rw [vp_cell_q, vp_cell_q, arrV_store]
  congr 2
  funext q
  by_cases hq : q = j
  · subst hq; simp [updV, va_up, va_rf]
  · simp [updV, va_up, hq]
/-- a reference put into an array of references: its class is castable (a word), or the very class -/
theorem x_aast (hC : xC p l s0 s D m args meth c own cc) {n n2 : xN} {a v N j : Nat} {i : Int32} {C : String} {f : Nat → Option Nat} {x : xE} (d : decode cc pc = .ok (.aastore, 1)) (hq : pc + 1 = q) (hdy : Nat.blt n.1 1000 = true) (hg : g n = some (a, xAr (.object C) N f)) (hd2 : Nat.blt n2.1 1000 = true) (hg2 : g n2 = some (v, x)) (hca : Cond.castable (xnm x) C ∈ lw_tbl ∨ (∃ o, x = .inr o) ∧ xnm x = C) (hi : i = nI j) (hj : j < N) (hN : N < 2 ^ 31) (k : XW p l e R s m args below meth c s0 D Q cells slots (xu g n (some (a, xAr (.object C) N (va_up f j (some v))))) q lv st) : XW p l e R s m args below meth c s0 D Q cells slots g pc lv (.ref v :: .int i :: .ref a :: st) := by
  subst hq; subst hi; intro H locs ls hm hI hS hl
  have hdy : n.1 < 1000 := Nat.le_of_ble_eq_true hdy
  have hd2 : n2.1 < 1000 := Nat.le_of_ble_eq_true hd2
  obtain ⟨cA, h1, h2, h3⟩ := (hI.at hdy hg).2
  have e : (nI j).toNatClampNeg = j := nI_clamp (by omega)
  obtain ⟨cellV, g1, g2, g3⟩ := (hI.at hd2 hg2).2.cls hC
  obtain ⟨kC, hkC, -⟩ := Vm.findClass_spec g3
  obtain ⟨kA, comp, k1, k2, k3, -⟩ := h2.moved hC.warm.alike
  obtain ⟨kE, hkE, -⟩ := Vm.findClass_spec k3
  have hasg : s.vm.assignable cellV.cls comp = true := by
    rcases hca with h | ⟨⟨o, ho⟩, h⟩
    · obtain ⟨c0, t1, f1, f2, f3⟩ := Cond.castable_spec (va_Nw.use (A := args) rfl (xcastable hC h))
      cases g3.symm.trans f1
      cases k3.symm.trans f2
      exact f3
    · subst ho
      rw [h] at g3
      cases g3.symm.trans k3
      obtain ⟨r, r1, -⟩ := (hI.at hd2 hg2).2
      have e : xnm (.inr o) = r.1 := by simp only [xnm, r1]
      have hcl := (hC.kn.1 o.1 r r1).2
      rw [← e, h] at hcl
      have e3 := Option.some.inj (hcl.1.symm.trans k3)
      rw [e3] at hcl
      exact va_assign hcl
  refine W.aast hC.1 hC.2.1 h3 (fun q h => by cases h) (fun h => by cases h) k1 k2 rfl hkE ⟨nI_pos (by omega), by show _ < (arrV _ _ _).slots.size; rw [arrV_size, e]; exact hj⟩ g1 (fun q h => by rw [g2] at h; cases h) hkC hasg rfl rfl d fun H1 e1 z oq => ?_
  refine k H1 _ ls hm (hI.put hdy hg z oq ⟨cA, h1, h2, ?_⟩) (hS.put z oq (hI.at hdy hg).1) hl
  rw [e1, e]
  show some ((vp_cell _ _).setSlot _ _) = some (vp_cell _ _)
  rw [vp_cell_q, vp_cell_q, arrV_store]
  congr 2
  funext q
  by_cases hq : q = j
  · subst hq; simp [updV, va_up, va_rf]
  · simp [updV, va_up, hq]
end XH
