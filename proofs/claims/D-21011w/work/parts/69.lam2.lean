/-! LAMBDAS: rows for the frame of a made class's method -/
section LAMR
variable {p : Program} {l : Launch} {e : Env} {R : Room} {s : State} {m : MethodId} {args : Array Value} {below : List Frame} {meth : Method} {c : Code} {H : Heap} {locs : List Loc} {cells slots : Nat} {Q : State → Prop} {cc : ByteArray} {pc : Nat} {ls : Array Slot} {rest : List Value}
/-- a field of the made class -/
theorem wl_get (hexec : p.tables.exec = Jvm.exec) (hb : c.code = cc) {index cf j : Nat} (hr : ∀ T : State, s.WarmedH T.vm → ∃ fd : Field, T.vm.fieldReady m.cls index cf fd ∧ fd.isStatic = false ∧ fd.slot = j) {a : Addr} {cell : Cell} {v : Value} (hcell : H[a]? = some cell) (hkn : cell.vm ≠ .unknown) (hv : cell.slots[j]? = some v) (d : decode cc pc = .ok (.getfield index, 3)) (k : W p l e R s m args below meth c H locs cells slots Q (F0 m (pc + 3) ls (v :: rest))) : W p l e R s m args below meth c H locs cells slots Q (F0 m pc ls (.ref a :: rest)) := by
  intro T hT X
  subst hb
  obtain ⟨t, a1, b1⟩ := k T hT X
  obtain ⟨fd, h1, h2, h3⟩ := hr T X.warmed
  refine ⟨t, ?_, b1⟩
  jvm_step X.here [hexec, d, Op.getfield.wp_ready (e := e) (s := T) (c := cf) (field := fd) (a := a) (rest := rest) (cell := cell) (v := v) (f := F0 m pc ls (.ref a :: rest)) X.here.top h1 h2 rfl (by rw [hT]; exact hcell) hkn (by rw [h3]; exact hv)]
  exact a1
variable {y : MethodName} {Pc : Array Value → State → Prop} {Qc : Array Value → State → Outcome → State → Prop} {mc ms index : Nat} {free : Addr → Prop} {As : List Value} {g : JFrame} {b : Addr}
/-- a static method, by a resolved entry -/
theorem wl_runS (hexec : p.tables.exec = Jvm.exec) (hb : c.code = cc) (hK : Back l R p e below s args y 3 8 (PreOf R mc ms Pc) (PostOf Qc mc ms free))
    (hr : ∀ T : State, s.WarmedH T.vm → ∃ (mk : MethodId) (kt : Class) (mt : Method), plainRef T e m.cls index ∧ T.vm.methodReady m.cls index mk ∧ T.vm.classes[mk.cls]? = some kt ∧ T.vm.method? mk = some mt ∧ signaturePolymorphic kt mt = false ∧ mt.isStatic = true ∧ kt.init = .initialized ∧ As.length = mt.sig.parameters.length ∧ T.methodNamed? y = some mk)
    (hPc : ∀ U : State, U.heap = H → s.WarmedH U.vm → Pc As.toArray U) (hg : g.method = m) (hsize : g.locals.size = c.maxLocals) (hstack : g.stack = As.reverse ++ rest) (hW : 2 * g.monitorRoom + (rest.map fun v => v.category).sum ≤ 8) (hdg : decode cc g.pc = .ok (.invokestatic index, 3)) (hf : cells + mc ≤ R.cells ∧ slots + ms ≤ R.slots) : va_Run p l e R s m args below meth c H locs cells slots mc ms g rest (Qc As.toArray) free := by
  intro T hT X
  subst hb
  obtain ⟨mk, kt, mt, r1, r2, r3, r4, r5, r6, r7, r8, r9⟩ := hr T X.warmed
  obtain ⟨v, ⟨U', l2, c2, s2⟩, X', ⟨g', mk', t, L, e1, e2, hq, h1, hL, h2, h3⟩, hsteps⟩ := hK m meth c ⟨T, locs, cells, slots⟩ { g with stack := rest } (.invokestatic index) mk As.toArray X hg hsize hdg hW r9 ⟨hf.1, hf.2, hPc T hT X.warmed⟩
  dsimp only [Pt.U, Pt.locs, Pt.cells, Pt.slots] at X' e1 e2 h1 h2 h3 hsteps
  subst h1; subst h2; subst h3; subst hg
  refine ⟨v, T.calling g' mk' As.toArray, t, U', L, hT, X', hL, e1, e2, hq, fun tg h => ?_⟩
  jvm_step X.here [hexec, hdg, Op.invokestatic.wp_ready (e := e) (s := T) (m := mk) (k := kt) (meth := mt) (args := As) (rest := rest) (f := g) X.here.top r1 r2 r3 r4 r5 r6 r7 r8 hstack]
  intro acts
  rw [doInvoke_state]
  exact hsteps.trans h
/-- an instance method, by a resolved entry -/
theorem wl_runV (hexec : p.tables.exec = Jvm.exec) (hb : c.code = cc) (hK : Back l R p e below s args y 3 8 (PreOf R mc ms Pc) (PostOf Qc mc ms free)) {cellB : Cell} (hcell : H[b]? = some cellB) (hobj : ∀ k, cellB.vm ≠ .statics k)
    (hr : ∀ T : State, s.WarmedH T.vm → ∃ (mk : MethodId) (kt : Class) (mt : Method), namesAClass T m.cls index ∧ T.vm.methodReady m.cls index mk ∧ T.vm.classes[mk.cls]? = some kt ∧ T.vm.method? mk = some mt ∧ signaturePolymorphic kt mt = false ∧ mt.isStatic = false ∧ As.length = mt.sig.parameters.length ∧ selectMethod {} T.vm cellB.cls mk = .method mk ∧ mt.isAbstract = false ∧ kt.isInterface = false ∧ T.methodNamed? y = some mk)
    (hPc : ∀ U : State, U.heap = H → s.WarmedH U.vm → Pc (Value.ref b :: As).toArray U) (hg : g.method = m) (hsize : g.locals.size = c.maxLocals) (hstack : g.stack = As.reverse ++ .ref b :: rest) (hW : 2 * g.monitorRoom + (rest.map fun v => v.category).sum ≤ 8) (hdg : decode cc g.pc = .ok (.invokevirtual index, 3)) (hf : cells + mc ≤ R.cells ∧ slots + ms ≤ R.slots) : va_Run p l e R s m args below meth c H locs cells slots mc ms g rest (Qc (Value.ref b :: As).toArray) free := by
  intro T hT X
  subst hb
  obtain ⟨mk, kt, mt, r1, r2, r3, r4, r5, r6, r7, r8, r10, r11, r9⟩ := hr T X.warmed
  obtain ⟨v, ⟨U', l2, c2, s2⟩, X', ⟨g', mk', t, L, e1, e2, hq, h1, hL, h2, h3⟩, hsteps⟩ := hK m meth c ⟨T, locs, cells, slots⟩ { g with stack := rest } (.invokevirtual index) mk (Value.ref b :: As).toArray X hg hsize hdg hW r9 ⟨hf.1, hf.2, hPc T hT X.warmed⟩
  dsimp only [Pt.U, Pt.locs, Pt.cells, Pt.slots] at X' e1 e2 h1 h2 h3 hsteps
  subst h1; subst h2; subst h3; subst hg
  refine ⟨v, T.calling g' mk' (Value.ref b :: As).toArray, t, U', L, hT, X', hL, e1, e2, hq, fun tg h => ?_⟩
  jvm_step X.here [hexec, hdg, Op.invokevirtual.wp_ready (e := e) (s := T) (r := mk) (m := mk) (k := kt) (mk := kt) (rmeth := mt) (meth := mt) (a := b) (args := As) (rest := rest) (cell := cellB) (f := g) X.here.top r1 r2 r3 r4 r5 r6 r7 hstack (by rw [hT]; exact hcell) hobj (by rw [Launch.admits_selectMethod X.admits]; exact r8) r4 r10 r3 r11]
  intro acts
  rw [doInvoke_state]
  exact hsteps.trans h
end LAMR
section LAMB
variable {p : Program} {l : Launch} {e : Env} {s : State} {m : MethodId} {args : Array Value} {meth : Method} {c : Code} {s0 : State} {D : va_G} {own : String} {cc : ByteArray}
/-- a contract, called from a frame further in -/
theorem xl_back (hC : xC p l s0 s D m args meth c own cc) {y : MethodName} {b : ByteArray} {L : Nat} {r : Option FieldType} {rm : Room} {As : List Value} {g : xG} {post : Option Value → xG → Prop} (hG : GoodIn lw_all (ws_ y b L r)) (hini : Cond.initialized y.cls ∈ lw_all) (hM : xMet l s0 D y b L r rm As g post) {s' : State} (hW : s.WarmedH s'.vm) {R' : Room} (hfr : rm.frames + 1 ≤ R'.frames) (hlo : 8 + (L + 11) + rm.locals ≤ R'.locals) {below' : List Frame} {args' : Array Value} : Back l R' p e below' s' args' y 3 8 (PreOf R' rm.cells rm.slots (xPc s0 D g As)) (PostOf (xQ s0 D post) rm.cells rm.slots (fun q => s0.heap.size ≤ q)) :=
  back_of (bytes := b) (maxL := L) (ret := r) hM (xPc.blind _ _ _ _) rfl rfl hfr hlo (fun w hw a' U hU => pay_in hC.hts hG w hw a' U (State.WarmedH.trans (s := s) (t := s') hW hU)) List.mem_cons_self (fun a' U hU => word_at (State.WarmedH.trans (s := s) (t := s') hW hU) (Or.inl (by first | rfl | simp [Cond.onTables, Cond.keeps, Cond.steady])) (hC.hts _ hini))
end LAMB
