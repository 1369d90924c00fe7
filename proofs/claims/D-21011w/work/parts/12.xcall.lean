/-! X LAYER: contracts, calls, ends -/
def xQ (s0 : State) (D : va_G) (post : Option Value → xG → Prop) : Array Value → State → Outcome → State → Prop := fun _ st oc t => ∃ (v : Option Value) (g' : xG), oc = .returned v ∧ post v g' ∧ xI s0 D g' t.heap ∧ va_F (fun q => s0.heap.size ≤ q) st t
def xPc (s0 : State) (D : va_G) (g : xG) (av : List Value) : Array Value → State → Prop := va_Pc av (fun U => s0.WarmedH U.vm ∧ xI s0 D g U.heap)
/-- A CONTRACT: called with av at the named heap g, y returns, and post holds of its answer and the named heap behind it; room rm -/
def xMet (l : Launch) (s0 : State) (D : va_G) (y : MethodName) (b : ByteArray) (L : Nat) (r : Option FieldType) (rm : Room) (av : List Value) (g : xG) (post : Option Value → xG → Prop) : Prop :=
  Met l y (ws_ y b L r) rm (xPc s0 D g av) (xQ s0 D post) rm.cells rm.slots (fun q => s0.heap.size ≤ q)
theorem xPc.blind (s0 : State) (D : va_G) (g : xG) (av : List Value) : FrameBlind (xPc s0 D g av) := fun _ _ _ _ q => q
abbrev xr (f c s l : Nat) : Room := { frames := f, cells := c, slots := s, locals := l }
def xarg : List Value → xL
  | [] => []
  | .long x :: r => some (.long x) :: none :: xarg r
  | .double x :: r => some (.double x) :: none :: xarg r
  | v :: r => some v :: xarg r
def xpad : Nat → xL → xL
  | 0, _ => []
  | n + 1, [] => none :: xpad n []
  | n + 1, x :: r => x :: xpad n r
theorem xpad_len : ∀ (n : Nat) (a : xL), (xpad n a).length = n := by
  intro n
  induction n with
  | zero => intro a; rfl
  | succ n ih => intro a; cases a <;> simp [xpad, ih]
theorem xpad_get : ∀ (n : Nat) (a : xL) (i : Nat) (v : Value), xg (xpad n a) i = some v → xg a i = some v := by
  intro n
  induction n with
  | zero => intro a i v h; simp [xpad, xg] at h
  | succ n ih =>
    intro a i v h
    cases a with
    | nil =>
      cases i with
      | zero => simp [xpad, xg] at h
      | succ i => simp [xpad, xg] at h; have := ih [] i v h; simp [xg] at this
    | cons x r =>
      cases i with
      | zero => exact h
      | succ i => exact ih r i v h
theorem xarg_mem : ∀ (vs : List Value) (i j : Nat) (v : Value), xg (xarg vs) i = some v → (j + i, v) ∈ lv_args j vs := by
  intro vs
  induction vs with
  | nil => intro i j v h; simp [xarg, xg] at h
  | cons u r ih =>
    intro i j v h
    have two : ∀ (hu : u.category = 2) (he : xarg (u :: r) = some u :: none :: xarg r), (j + i, v) ∈ lv_args j (u :: r) := by
      intro hu he
      rw [he] at h
      simp only [lv_args, hu, if_true]
      match i with
      | 0 => simp [xg] at h; simp [h]
      | 1 => simp [xg] at h
      | i + 2 =>
        simp only [xg] at h
        refine List.mem_cons_of_mem _ ?_
        have := ih i (j + 2) v h
        rwa [show j + (i + 2) = j + 2 + i by omega]
    have one : ∀ (hu : u.category = 1) (he : xarg (u :: r) = some u :: xarg r), (j + i, v) ∈ lv_args j (u :: r) := by
      intro hu he
      rw [he] at h
      have hn : ¬ u.category = 2 := by omega
      simp only [lv_args, hn, if_false]
      cases i with
      | zero => simp [xg] at h; simp [h]
      | succ i =>
        simp only [xg] at h
        refine List.mem_cons_of_mem _ ?_
        have := ih i (j + 1) v h
        rwa [show j + (i + 1) = j + 1 + i by omega]
    cases u with
    | long x => exact two rfl rfl
    | double x => exact two rfl rfl
    | int x => exact one rfl rfl
    | float x => exact one rfl rfl
    | ref x => exact one rfl rfl
    | null => exact one rfl rfl
    | retAddr x => exact one rfl rfl
section XE0
variable {l : Launch} {s0 : State} {D : va_G}
theorem xMet.of {y : MethodName} {b : ByteArray} {L : Nat} {r : Option FieldType} {rm : Room} {av : List Value} {g : xG} {post : Option Value → xG → Prop} (h0 : x0 l s0 D) (hy : plainFor y = true) (hlen : Nat.ble (lg_sl av).length L = true)
    (body : ∀ (p : Program) (e : Env) (s : State) (m : MethodId) (args : Array Value) (below : List Frame) (meth : Method) (c : Code), xC p l s0 s D m args meth c y.cls b → meth.sig.returnType = r → meth.name = y.name →
      XW p l e rm s m args below meth c s0 D (MQ below (xQ s0 D post) args s rm.cells rm.slots (fun q => s0.heap.size ≤ q)) 0 0 g 0 (xpad L (xarg av)) []) : xMet l s0 D y b L r rm av g post := by
  refine va_MetF (cc := b) (maxL := L) (ret := r) hy rfl ?_
  intro p e s m args below meth c s₁ B hml hv
  obtain ⟨rfl, hW, hI⟩ := hv
  have hts := atoms_spec (ws := ws_ y b L r) B.pre
  have hts : ∀ w ∈ lw_all, w.before _ s = true := fun w h => hts w (List.mem_cons_of_mem _ h)
  have hl := lv_entry av (n := L) (Nat.le_of_ble_eq_true hlen)
  rw [lg_entry_eq]
  refine body p e s m _ below meth c ⟨B.exec, B.bytes, findClass_of_methodNamed B.named, hts, B.notSynchronized, hW, h0, hI.1⟩ B.returns (name_of_methodNamed B.named B.method).1 s.heap [] _ (by rw [hml, xpad_len]) hI ⟨Nat.le_refl _, fun _ _ _ => rfl, fun _ h => by cases h⟩ (xlv.of hl (xpad_len _ _).symm fun i v hv => ?_)
  have := xarg_mem av i 0 v (xpad_get _ _ _ _ hv)
  simpa using this
end XE0
section XK
variable {p : Program} {l : Launch} {e : Env} {R : Room} {s : State} {m : MethodId} {args : Array Value} {below : List Frame} {meth : Method} {c : Code} {s0 : State} {D : va_G} {Q : State → Prop} {cells slots : Nat} {g : xG} {own : String} {cc : ByteArray} {pc q : Nat} {lv : xL} {st : List Value}
theorem x_run {mc ms : Nat} {rest : List Value} {post : Option Value → xG → Prop} {a : Array Value} (hr : ∀ (H : Heap) (locs : List Loc) (ls : Array Slot), c.maxLocals = lv.length → xI s0 D g H → xlv ls lv → va_Run p l e R s m args below meth c H locs cells slots mc ms (F0 m pc ls st) rest (xQ s0 D post a) (fun q => s0.heap.size ≤ q)) (hq : pc + 3 = q)
    (k : ∀ (v : Option Value) (g' : xG), post v g' → XW p l e R s m args below meth c s0 D Q (cells + mc) (slots + ms) g' q lv (v.toList ++ rest)) : XW p l e R s m args below meth c s0 D Q cells slots g pc lv st := by
  subst hq; intro H locs ls hm hI hS hl T hT X
  obtain ⟨v, st₀, t, T', L, h0, X', hL, e1, e2, ⟨v', g', hv, hp, hI', hz, hk⟩, st⟩ := hr H locs ls hm hI hl T hT X
  cases hv
  rw [h0] at hz hk
  obtain ⟨t2, a1, b1⟩ := k v g' hp T'.heap (locs ++ L) ls hm (by rw [e1]; exact hI')
    ⟨Nat.le_trans hS.1 (by rw [e1]; exact hz), fun q h1 h2 => by rw [e1, hk q (Nat.lt_of_lt_of_le h1 hS.1) h2]; exact hS.2.1 q h1 h2, fun q hq => by
      rcases List.mem_append.mp hq with h | h
      · exact hS.2.2 q h
      · exact hL q h⟩ hl T' rfl X'
  exact ⟨t2, st t2 a1, b1⟩
theorem x_run5 {mc ms : Nat} {rest : List Value} {post : Option Value → xG → Prop} {a : Array Value} (hr : ∀ (H : Heap) (locs : List Loc) (ls : Array Slot), c.maxLocals = lv.length → xI s0 D g H → xlv ls lv → va_Run5 p l e R s m args below meth c H locs cells slots mc ms (F0 m pc ls st) rest (xQ s0 D post a) (fun q => s0.heap.size ≤ q)) (hq : pc + 5 = q)
    (k : ∀ (v : Option Value) (g' : xG), post v g' → XW p l e R s m args below meth c s0 D Q (cells + mc) (slots + ms) g' q lv (v.toList ++ rest)) : XW p l e R s m args below meth c s0 D Q cells slots g pc lv st := by
  subst hq; intro H locs ls hm hI hS hl T hT X
  obtain ⟨v, st₀, t, T', L, h0, X', hL, e1, e2, ⟨v', g', hv, hp, hI', hz, hk⟩, st⟩ := hr H locs ls hm hI hl T hT X
  cases hv
  rw [h0] at hz hk
  obtain ⟨t2, a1, b1⟩ := k v g' hp T'.heap (locs ++ L) ls hm (by rw [e1]; exact hI')
    ⟨Nat.le_trans hS.1 (by rw [e1]; exact hz), fun q h1 h2 => by rw [e1, hk q (Nat.lt_of_lt_of_le h1 hS.1) h2]; exact hS.2.1 q h1 h2, fun q hq => by
      rcases List.mem_append.mp hq with h | h
      · exact hS.2.2 q h
      · exact hL q h⟩ hl T' rfl X'
  exact ⟨t2, st t2 a1, b1⟩
theorem xC.fix (hC : xC p l s0 s D m args meth c own cc) (hm : c.maxLocals = lv.length) : CallFix p m c cc lv.length s args lw_all own := ⟨hC.1, hC.2.1, hm, hC.2.2.1, hC.2.2.2.1⟩
theorem xpreS (hC : xC p l s0 s D m args meth c own cc) {H : Heap} (hI : xI s0 D g H) (av : List Value) : PreS s H (xPc s0 D g av) av := ⟨xPc.blind _ _ _ _, fun U hU hW => ⟨rfl, (by have := hC.warm; exact State.WarmedH.trans (s := s0) (t := s) this hW), by rw [hU]; exact hI⟩⟩
theorem xpreV (hC : xC p l s0 s D m args meth c own cc) {H : Heap} (hI : xI s0 D g H) {nn : xN} {a ci : Nat} {fs : List Value} (hg : g nn = some (a, .inr (ci, fs))) {C : String} (hx : xnm (.inr (ci, fs)) = C) (As : List Value) (hok : Nat.blt ci 24 = true) : PreV s H C a (xPc s0 D g (.ref a :: As)) As := ⟨xPc.blind _ _ _ _, by rw [← hx]; exact hI.recv hC hg hok, (xpreS hC hI (.ref a :: As)).2⟩
/-- what a method's contract is called by: words and descriptor -/
def xV (own : String) (idx : Nat) (C : String) (y : MethodName) (b : ByteArray) (L : Nat) (r : Option FieldType) (n : Nat) : Prop := GoodIn lw_all (wsV own idx C y (ws_ y b L r)) ∧ (y.cls = C ∧ y.cls ≠ "java/lang/invoke/MethodHandle" ∧ y.cls ≠ "java/lang/invoke/VarHandle" ∧ (parseMethodDescriptor y.desc).map (fun d => d.parameters.length) = some n)
def xSt (own : String) (idx : Nat) (y : MethodName) (b : ByteArray) (L : Nat) (r : Option FieldType) (n : Nat) : Prop := GoodIn lw_all (va_wsS own idx y (ws_ y b L r)) ∧ (y.cls ≠ "java/lang/invoke/MethodHandle" ∧ y.cls ≠ "java/lang/invoke/VarHandle" ∧ (parseMethodDescriptor y.desc).map (fun d => d.parameters.length) = some n)
def xIn (own : String) (idx : Nat) (y : MethodName) (b : ByteArray) (L : Nat) (n : Nat) : Prop := GoodIn lw_all (ws_ y b L none) ∧ Cond.initialized y.cls ∈ lw_all ∧ Cond.methodLink own idx y ∈ lw_all ∧ Cond.instanceMethod y ∈ lw_all ∧ y.name = "<init>" ∧ (y.cls ≠ "java/lang/invoke/MethodHandle" ∧ y.cls ≠ "java/lang/invoke/VarHandle" ∧ (parseMethodDescriptor y.desc).map (fun d => d.parameters.length) = some n)
/-- a nest mate's method -/
def xNe (own : String) (idx : Nat) (y : MethodName) (b : ByteArray) (L : Nat) (r : Option FieldType) (n : Nat) : Prop := ∃ host, GoodIn lw_all (ws_ y b L r) ∧ Cond.methodLinkNest own idx y host ∈ lw_tbl ∧ Cond.initialized y.cls ∈ lw_all ∧ (y.cls ≠ "java/lang/invoke/MethodHandle" ∧ y.cls ≠ "java/lang/invoke/VarHandle" ∧ (parseMethodDescriptor y.desc).map (fun d => d.parameters.length) = some n)
theorem x_callV (hC : xC p l s0 s D m args meth c own cc) {idx n L a : Nat} {C : String} {y : MethodName} {b : ByteArray} {r : Option FieldType} {rm : Room} {As rest : List Value} {nn : xN} {ci : Nat} {fs : List Value} {post : Option Value → xG → Prop} (hv : xV own idx C y b L r n) (d : decode cc pc = .ok (.invokevirtual idx, 3)) (hq : pc + 3 = q) (hst : st = As.reverse ++ .ref a :: rest) (hM : xMet l s0 D y b L r rm (.ref a :: As) g post) (hg : g nn = some (a, .inr (ci, fs))) (hx : xnm (.inr (ci, fs)) = C) (hn : As.length = n) (hrest : (rest.map fun v => v.category).sum ≤ 8) (hR : rm.frames + 1 ≤ R.frames ∧ 8 + (L + 11) + rm.locals ≤ R.locals) (hcs : cells + rm.cells ≤ R.cells ∧ slots + rm.slots ≤ R.slots)
    (k : ∀ (v : Option Value) (g' : xG), post v g' → XW p l e R s m args below meth c s0 D Q (cells + rm.cells) (slots + rm.slots) g' q lv (v.toList ++ rest)) (hok : Nat.blt ci 24 = true := by rfl) : XW p l e R s m args below meth c s0 D Q cells slots g pc lv st := by
  refine x_run (a := (Value.ref a :: As).toArray) (fun H locs ls hm hI hl => ?_) hq k
  exact va_runV (hC.fix hm) hM (cwV n hC.hts hv.1 rfl rfl rfl hv.2 hR) (xpreV hC hI hg hx As hok) rfl hn hl.1 hst (lv_room hrest) d hcs
theorem x_callVN (hC : xC p l s0 s D m args meth c own cc) {idx n L a : Nat} {C : String} {y : MethodName} {b : ByteArray} {r : Option FieldType} {rm : Room} {As rest : List Value} {nn : xN} {ci : Nat} {fs : List Value} {post : Option Value → xG → Prop} (hv : xNe own idx y b L r n ∧ Cond.instanceMethod y ∈ lw_all ∧ Cond.selects C y y ∈ lw_all) (d : decode cc pc = .ok (.invokevirtual idx, 3)) (hq : pc + 3 = q) (hst : st = As.reverse ++ .ref a :: rest) (hM : xMet l s0 D y b L r rm (.ref a :: As) g post) (hg : g nn = some (a, .inr (ci, fs))) (hx : xnm (.inr (ci, fs)) = C) (hn : As.length = n) (hrest : (rest.map fun v => v.category).sum ≤ 8) (hR : rm.frames + 1 ≤ R.frames ∧ 8 + (L + 11) + rm.locals ≤ R.locals) (hcs : cells + rm.cells ≤ R.cells ∧ slots + rm.slots ≤ R.slots)
    (k : ∀ (v : Option Value) (g' : xG), post v g' → XW p l e R s m args below meth c s0 D Q (cells + rm.cells) (slots + rm.slots) g' q lv (v.toList ++ rest)) (hok : Nat.blt ci 24 = true := by rfl) : XW p l e R s m args below meth c s0 D Q cells slots g pc lv st := by
  obtain ⟨⟨host, h1, h2, h3, h4⟩, h5, h6⟩ := hv
  refine x_run (a := (Value.ref a :: As).toArray) (fun H locs ls hm hI hl => ?_) hq k
  exact va_runVN (hC.fix hm) hM ⟨va_cnB n hC.hts h1 rfl rfl rfl (xnestM hC h2) (hC.hts _ h3) h4 hR, hC.hts _ h5, hC.hts _ h6⟩ (xpreV hC hI hg hx As hok) rfl hn hl.1 hst (lv_room hrest) d hcs
theorem x_callS (hC : xC p l s0 s D m args meth c own cc) {idx n L : Nat} {y : MethodName} {b : ByteArray} {r : Option FieldType} {rm : Room} {As rest : List Value} {post : Option Value → xG → Prop} (hv : xSt own idx y b L r n) (d : decode cc pc = .ok (.invokestatic idx, 3)) (hq : pc + 3 = q) (hst : st = As.reverse ++ rest) (hM : xMet l s0 D y b L r rm As g post) (hn : As.length = n) (hrest : (rest.map fun v => v.category).sum ≤ 8) (hR : rm.frames + 1 ≤ R.frames ∧ 8 + (L + 11) + rm.locals ≤ R.locals) (hcs : cells + rm.cells ≤ R.cells ∧ slots + rm.slots ≤ R.slots)
    (k : ∀ (v : Option Value) (g' : xG), post v g' → XW p l e R s m args below meth c s0 D Q (cells + rm.cells) (slots + rm.slots) g' q lv (v.toList ++ rest)) : XW p l e R s m args below meth c s0 D Q cells slots g pc lv st := by
  refine x_run (a := As.toArray) (fun H locs ls hm hI hl => ?_) hq k
  exact va_runS (hC.fix hm) hM (va_cwS n hC.hts hv.1 rfl rfl rfl hv.2 hR) (xpreS hC hI As) rfl hn hl.1 hst (lv_room hrest) d hcs
theorem x_callSN (hC : xC p l s0 s D m args meth c own cc) {idx n L : Nat} {y : MethodName} {b : ByteArray} {r : Option FieldType} {rm : Room} {As rest : List Value} {post : Option Value → xG → Prop} (hv : xNe own idx y b L r n ∧ Cond.static y ∈ lw_all) (d : decode cc pc = .ok (.invokestatic idx, 3)) (hq : pc + 3 = q) (hst : st = As.reverse ++ rest) (hM : xMet l s0 D y b L r rm As g post) (hn : As.length = n) (hrest : (rest.map fun v => v.category).sum ≤ 8) (hR : rm.frames + 1 ≤ R.frames ∧ 8 + (L + 11) + rm.locals ≤ R.locals) (hcs : cells + rm.cells ≤ R.cells ∧ slots + rm.slots ≤ R.slots)
    (k : ∀ (v : Option Value) (g' : xG), post v g' → XW p l e R s m args below meth c s0 D Q (cells + rm.cells) (slots + rm.slots) g' q lv (v.toList ++ rest)) : XW p l e R s m args below meth c s0 D Q cells slots g pc lv st := by
  obtain ⟨⟨host, h1, h2, h3, h4⟩, h5⟩ := hv
  refine x_run (a := As.toArray) (fun H locs ls hm hI hl => ?_) hq k
  exact va_runSN (hC.fix hm) hM ⟨va_cnB n hC.hts h1 rfl rfl rfl (xnestM hC h2) (hC.hts _ h3) h4 hR, hC.hts _ h5, trivial⟩ (xpreS hC hI As) rfl hn hl.1 hst (lv_room hrest) d hcs
theorem x_callI (hC : xC p l s0 s D m args meth c own cc) {idx n L a : Nat} {y : MethodName} {b : ByteArray} {rm : Room} {As rest : List Value} {post : Option Value → xG → Prop} (hv : xIn own idx y b L n) (d : decode cc pc = .ok (.invokespecial idx, 3)) (hq : pc + 3 = q) (hst : st = As.reverse ++ .ref a :: rest) (hM : xMet l s0 D y b L none rm (.ref a :: As) g post) (hn : As.length = n) (hrest : (rest.map fun v => v.category).sum ≤ 8) (hR : rm.frames + 1 ≤ R.frames ∧ 8 + (L + 11) + rm.locals ≤ R.locals) (hcs : cells + rm.cells ≤ R.cells ∧ slots + rm.slots ≤ R.slots)
    (k : ∀ (v : Option Value) (g' : xG), post v g' → XW p l e R s m args below meth c s0 D Q (cells + rm.cells) (slots + rm.slots) g' q lv (v.toList ++ rest)) : XW p l e R s m args below meth c s0 D Q cells slots g pc lv st := by
  obtain ⟨h1, h2, h3, h4, h5, h6⟩ := hv
  refine x_run (a := (Value.ref a :: As).toArray) (fun H locs ls hm hI hl => ?_) hq k
  exact va_runI (hC.fix hm) hM (cwI n hC.hts h1 rfl rfl rfl (hC.hts _ h2) (hC.hts _ h3) (hC.hts _ h4) h5 h6 hR) (xpreS hC hI (.ref a :: As)) rfl hn hl.1 hst (lv_room hrest) d hcs
theorem x_callIN (hC : xC p l s0 s D m args meth c own cc) {idx n L a : Nat} {y : MethodName} {b : ByteArray} {rm : Room} {As rest : List Value} {post : Option Value → xG → Prop} (hv : xNe own idx y b L none n ∧ y.name = "<init>" ∧ Cond.instanceMethod y ∈ lw_all) (d : decode cc pc = .ok (.invokespecial idx, 3)) (hq : pc + 3 = q) (hst : st = As.reverse ++ .ref a :: rest) (hM : xMet l s0 D y b L none rm (.ref a :: As) g post) (hn : As.length = n) (hrest : (rest.map fun v => v.category).sum ≤ 8) (hR : rm.frames + 1 ≤ R.frames ∧ 8 + (L + 11) + rm.locals ≤ R.locals) (hcs : cells + rm.cells ≤ R.cells ∧ slots + rm.slots ≤ R.slots)
    (k : ∀ (v : Option Value) (g' : xG), post v g' → XW p l e R s m args below meth c s0 D Q (cells + rm.cells) (slots + rm.slots) g' q lv (v.toList ++ rest)) : XW p l e R s m args below meth c s0 D Q cells slots g pc lv st := by
  obtain ⟨⟨host, h1, h2, h3, h4⟩, h5, h6⟩ := hv
  refine x_run (a := (Value.ref a :: As).toArray) (fun H locs ls hm hI hl => ?_) hq k
  exact va_runIN (hC.fix hm) hM ⟨va_cnB n hC.hts h1 rfl rfl rfl (xnestM hC h2) (hC.hts _ h3) h4 hR, h5, hC.hts _ h6⟩ (xpreS hC hI (.ref a :: As)) rfl hn hl.1 hst (lv_room hrest) d hcs
theorem x_objInit (hC : xC p l s0 s D m args meth c own cc) {idx a : Nat} (h1 : Cond.methodLink own idx objectInit ∈ lw_all) (h2 : Cond.instanceMethod objectInit ∈ lw_all) (h3 : Cond.code objectInit ⟨#[0xb1]⟩ 1 none ∈ lw_all) (d : decode cc pc = .ok (.invokespecial idx, 3)) (hq : pc + 3 = q) (hrest : (st.map fun v => v.category).sum ≤ 8) (hf : 1 ≤ R.frames) (hlo : 20 ≤ R.locals) (k : XW p l e R s m args below meth c s0 D Q cells slots g q lv st) : XW p l e R s m args below meth c s0 D Q cells slots g pc lv (.ref a :: st) := by
  subst hq; intro H locs ls hm hI hS hl
  have := lv_room (m := m) (pc := pc) (ls := ls) (rest := .ref a :: st) hrest
  exact W.objInit hC.1 hC.2.1 hC.2.2.1 (hC.hts _ h1) (hC.hts _ h2) (hC.hts _ h3) rfl (by rw [hm]; exact hl.1) rfl d hf (by omega) (k H locs ls hm hI hS hl)
end XK
section XZ
variable {p : Program} {l : Launch} {e : Env} {mc ms : Nat} {s : State} {m : MethodId} {args : Array Value} {below : List Frame} {meth : Method} {c : Code} {s0 : State} {D : va_G} {cells slots : Nat} {g : xG} {own : String} {cc : ByteArray} {pc : Nat} {lv : xL} {post : Option Value → xG → Prop} {R : Room}
theorem x_iret (hC : xC p l s0 s D m args meth c own cc) {x : Int32} (hr : meth.sig.returnType = some .int) (d : decode cc pc = .ok (.ireturn, 1)) (h1 : cells ≤ mc) (h2 : slots ≤ ms) (hp : post (some (.int x)) g) : XW p l e R s m args below meth c s0 D (MQ below (xQ s0 D post) args s mc ms (fun q => s0.heap.size ≤ q)) cells slots g pc lv [.int x] := by
  refine x_widen h1 h2 ?_
  intro H locs ls hm hI hS hl
  exact W.iret hC.1 hC.2.1 hr (fun t ht hW => ⟨_, g, rfl, hp, by rw [ht]; exact hI, hS.F ht⟩) hS.2.2 d hC.2.2.2.2.1
theorem x_zret (hC : xC p l s0 s D m args meth c own cc) {x : Int32} {ty : FieldType} (hr : meth.sig.returnType = some ty) (hn : narrow ty (.int x) = .int x) (d : decode cc pc = .ok (.ireturn, 1)) (h1 : cells ≤ mc) (h2 : slots ≤ ms) (hp : post (some (.int x)) g) : XW p l e R s m args below meth c s0 D (MQ below (xQ s0 D post) args s mc ms (fun q => s0.heap.size ≤ q)) cells slots g pc lv [.int x] := by
  refine x_widen h1 h2 ?_
  intro H locs ls hm hI hS hl
  exact W.zret hC.1 hC.2.1 hr hn (fun t ht hW => ⟨_, g, rfl, hp, by rw [ht]; exact hI, hS.F ht⟩) hS.2.2 d hC.2.2.2.2.1
theorem x_vret (hC : xC p l s0 s D m args meth c own cc) (hr : meth.sig.returnType = none) (d : decode cc pc = .ok (.return_, 1)) (h1 : cells ≤ mc) (h2 : slots ≤ ms) (hp : post none g) : XW p l e R s m args below meth c s0 D (MQ below (xQ s0 D post) args s mc ms (fun q => s0.heap.size ≤ q)) cells slots g pc lv [] := by
  refine x_widen h1 h2 ?_
  intro H locs ls hm hI hS hl
  exact W.vret hC.1 hC.2.1 hr (fun t ht hW => ⟨_, g, rfl, hp, by rw [ht]; exact hI, hS.F ht⟩) hS.2.2 d hC.2.2.2.2.1
theorem x_aret (hC : xC p l s0 s D m args meth c own cc) {v : Value} {rt : FieldType} (hr : meth.sig.returnType = some rt) (hrt : (∃ n, rt = .object n) ∨ ∃ t, rt = .array t) (hv : v = .null ∨ ∃ a, v = .ref a) (d : decode cc pc = .ok (.areturn, 1)) (h1 : cells ≤ mc) (h2 : slots ≤ ms) (hp : post (some v) g) : XW p l e R s m args below meth c s0 D (MQ below (xQ s0 D post) args s mc ms (fun q => s0.heap.size ≤ q)) cells slots g pc lv [v] := by
  refine x_widen h1 h2 ?_
  intro H locs ls hm hI hS hl
  exact W.aret hC.1 hC.2.1 hr hrt hv (fun t ht hW => ⟨_, g, rfl, hp, by rw [ht]; exact hI, hS.F ht⟩) hS.2.2 d hC.2.2.2.2.1
theorem x_lret (hC : xC p l s0 s D m args meth c own cc) {x : Int64} (hr : meth.sig.returnType = some .long) (d : decode cc pc = .ok (.lreturn, 1)) (h1 : cells ≤ mc) (h2 : slots ≤ ms) (hp : post (some (.long x)) g) : XW p l e R s m args below meth c s0 D (MQ below (xQ s0 D post) args s mc ms (fun q => s0.heap.size ≤ q)) cells slots g pc lv [.long x] := by
  refine x_widen h1 h2 ?_
  intro H locs ls hm hI hS hl
  exact W.lret hC.1 hC.2.1 hr (fun t ht hW => ⟨_, g, rfl, hp, by rw [ht]; exact hI, hS.F ht⟩) hS.2.2 d hC.2.2.2.2.1
end XZ
