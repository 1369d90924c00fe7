/-! LAMBDAS: rows of the made frame -/
section LAMF
variable {p : Program} {l : Launch} {e : Env} {R : Room} {s s' : State} {m : MethodId} {args args' : Array Value} {below' : List Frame} {meth methk : Method} {c ck : Code} {s0 : State} {D : va_G} {Q : State → Prop} {cells slots : Nat} {g : xG} {own : String} {cc by0 : ByteArray} {pc q : Nat} {lv : xL} {st : List Value} {cK : ClassId}
theorem xl_aload (hexec : p.tables.exec = Jvm.exec) (hb : ck.code = by0) {k0 : Fin 4} {a : Nat} (d : decode by0 pc = .ok (.aload_n k0, 1)) (hq : pc + 1 = q) (hx : xg lv (k0 : Nat) = some (.ref a)) (k : XW p l e R s' ⟨cK, 1⟩ args' below' methk ck s0 D Q cells slots g q lv (.ref a :: st)) : XW p l e R s' ⟨cK, 1⟩ args' below' methk ck s0 D Q cells slots g pc lv st := by
  subst hq; intro H locs ls hm hI hS hl; exact lv_aload_n hexec hb d rfl (hl.2.2 _ _ hx) (k H locs ls hm hI hS hl)
theorem xl_iload (hexec : p.tables.exec = Jvm.exec) (hb : ck.code = by0) {k0 : Fin 4} {x : Int32} (d : decode by0 pc = .ok (.iload_n k0, 1)) (hq : pc + 1 = q) (hx : xg lv (k0 : Nat) = some (.int x)) (k : XW p l e R s' ⟨cK, 1⟩ args' below' methk ck s0 D Q cells slots g q lv (.int x :: st)) : XW p l e R s' ⟨cK, 1⟩ args' below' methk ck s0 D Q cells slots g pc lv st := by
  subst hq; intro H locs ls hm hI hS hl; exact lv_iload_n hexec hb d rfl (hl.2.2 _ _ hx) (k H locs ls hm hI hS hl)
theorem xl_zret (hexec : p.tables.exec = Jvm.exec) (hb : ck.code = by0) (hlk : methk.locks = false) {x : Int32} {ty : FieldType} {mc ms : Nat} {post : Option Value → xG → Prop} (hr : methk.sig.returnType = some ty) (hn : narrow ty (.int x) = .int x) (d : decode by0 pc = .ok (.ireturn, 1)) (h1 : cells ≤ mc) (h2 : slots ≤ ms) (hp : post (some (.int x)) g) : XW p l e R s' ⟨cK, 1⟩ args' below' methk ck s0 D (MQ below' (xQ s0 D post) args' s' mc ms (fun q => s0.heap.size ≤ q)) cells slots g pc lv [.int x] := by
  refine x_widen h1 h2 ?_
  intro H locs ls hm hI hS hl
  exact W.zret hexec hb hr hn (fun t ht hW => ⟨_, g, rfl, hp, by rw [ht]; exact hI, hS.F ht⟩) hS.2.2 d hlk
/-- a captured value -/
theorem xl_get (hexec : p.tables.exec = Jvm.exec) (hb : ck.code = by0) {index j ci a : Nat} {n : xN} {vals : List Value} {v : Value} (hr : ∀ T : State, s'.WarmedH T.vm → ∃ fd : Field, T.vm.fieldReady cK index cK fd ∧ fd.isStatic = false ∧ fd.slot = j) (hn : Nat.ble 2000 n.1 = true) (hg : g n = some (a, .inr (ci, vals))) (hv : vals[j]? = some v) (d : decode by0 pc = .ok (.getfield index, 3)) (hq : pc + 3 = q) (k : XW p l e R s' ⟨cK, 1⟩ args' below' methk ck s0 D Q cells slots g q lv (v :: st)) : XW p l e R s' ⟨cK, 1⟩ args' below' methk ck s0 D Q cells slots g pc lv (.ref a :: st) := by
  subst hq; intro H locs ls hm hI hS hl
  have hn := Nat.le_of_ble_eq_true hn
  have hc : ∃ c1 : ClassId, H[a]? = some ({ cls := c1, slots := vals.toArray, vm := .none } : Cell) := by
    rcases hI.2.2.1 n a _ hg with q | q | q
    · have := q.1; omega
    · have := q.1.2; omega
    · obtain ⟨-, c1, -, h⟩ := q.2.2
      exact ⟨c1, h⟩
  obtain ⟨c1, hc⟩ := hc
  exact wl_get (m := ⟨cK, 1⟩) hexec hb hr hc (fun h => by cases h) (by simpa using hv) d (k H locs ls hm hI hS hl)
/-- an instance method -/
theorem xl_callV (hC : xC p l s0 s D m args meth c own cc) (hb : ck.code = by0) (hW : s.WarmedH s'.vm) {y : MethodName} {idx ci nt L a : Nat} {b : ByteArray} {r : Option FieldType} {rm : Room} {As rest : List Value} {nn : xN} {fs : List Value} {post : Option Value → xG → Prop}
    (hfa : ∀ T : State, s'.WarmedH T.vm → ∃ (k tk : Class) (file : ClassFile) (toy : ClassId) (t : MethodId), T.vm.classes[cK]? = some k ∧ k.cf = some file ∧ file.constantPool[idx]? = some (.methodref ci nt) ∧ T.vm.findClass y.cls = some toy ∧ T.vm.classes[toy]? = some tk ∧ tk.isInterface = false ∧ ((methodIn toy y.name y.desc tk.isInterface none).ask { classPath := fun _ => none } T.vm).1 = .ok t ∧ T.vm.methodReady cK idx t ∧ T.vm.classReady cK ci toy)
    (hyn : y.cls ≠ "java/lang/invoke/MethodHandle" ∧ y.cls ≠ "java/lang/invoke/VarHandle") (hG : GoodIn lw_all (ws_ y b L r)) (hini : Cond.initialized y.cls ∈ lw_all) (hcode : Cond.code y b L r ∈ lw_all) (hins : Cond.instanceMethod y ∈ lw_all) (hsel : Cond.selects y.cls y y ∈ lw_all) (hpar : (parseMethodDescriptor y.desc).map (fun d => d.parameters.length) = some As.length)
    (hM : xMet l s0 D y b L r rm (.ref a :: As) g post) (hg : g nn = some (a, .inr (1, fs))) (hx : xnm (.inr (1, fs)) = y.cls) (d : decode by0 pc = .ok (.invokevirtual idx, 3)) (hq : pc + 3 = q) (hst : st = As.reverse ++ .ref a :: rest) (hrest : (rest.map fun v => v.category).sum ≤ 8) (hR : rm.frames + 1 ≤ R.frames ∧ 8 + (L + 11) + rm.locals ≤ R.locals) (hcs : cells + rm.cells ≤ R.cells ∧ slots + rm.slots ≤ R.slots)
    (k : ∀ (v : Option Value) (g' : xG), post v g' → XW p l e R s' ⟨cK, 1⟩ args' below' methk ck s0 D Q (cells + rm.cells) (slots + rm.slots) g' q lv (v.toList ++ rest)) : XW p l e R s' ⟨cK, 1⟩ args' below' methk ck s0 D Q cells slots g pc lv st := by
  refine x_run (a := (Value.ref a :: As).toArray) (fun H locs ls hm hI hl => ?_) hq k
  obtain ⟨cell, c1, c2, c3⟩ := hI.recv hC hg rfl
  refine wl_runV (y := y) (Pc := xPc s0 D g (.ref a :: As)) hC.1 hb (xl_back hC hG hini hM hW hR.1 hR.2) c1 (fun k h => by rw [h] at c2; cases c2) (fun T hT => ?_) (fun U hU hWU => ⟨rfl, State.WarmedH.trans (s := s0) (t := s) hC.warm (State.WarmedH.trans (s := s) (t := s') hW hWU), by rw [hU]; exact hI⟩) rfl (hl.1.trans hm.symm) hst (lv_room hrest) d hcs
  have hWT := State.WarmedH.trans (s := s) (t := s') hW hT
  obtain ⟨k, tk, file, toy, t, f1, f2, f3, f4, f5, f6, f7, f8, f9⟩ := hfa T hT
  have ht : toy = cell.cls := by
    have h1 := f4
    rw [hWT.alike.findClass, ← hx, c3] at h1
    exact (Option.some.inj h1).symm
  rw [← ht]
  exact xl_hrV hC hWT f1 f2 f3 f4 f5 f6 f7 f8 f9 hyn hcode hins hsel hpar
/-- a static method -/
theorem xl_callS (hC : xC p l s0 s D m args meth c own cc) (hb : ck.code = by0) (hW : s.WarmedH s'.vm) {y : MethodName} {idx ci nt L : Nat} {b : ByteArray} {r : Option FieldType} {rm : Room} {As rest : List Value} {post : Option Value → xG → Prop}
    (hfa : ∀ T : State, s'.WarmedH T.vm → ∃ (k tk : Class) (file : ClassFile) (toy : ClassId) (t : MethodId), T.vm.classes[cK]? = some k ∧ k.cf = some file ∧ file.constantPool[idx]? = some (.methodref ci nt) ∧ file.constantPool.nameAndType? nt = some (y.name, y.desc) ∧ T.vm.findClass y.cls = some toy ∧ T.vm.classes[toy]? = some tk ∧ ((methodIn toy y.name y.desc tk.isInterface none).ask { classPath := fun _ => none } T.vm).1 = .ok t ∧ T.vm.methodReady cK idx t ∧ T.vm.classReady cK ci toy)
    (hyn : y.cls ≠ "java/lang/invoke/MethodHandle" ∧ y.cls ≠ "java/lang/invoke/VarHandle") (hG : GoodIn lw_all (ws_ y b L r)) (hini : Cond.initialized y.cls ∈ lw_all) (hcode : Cond.code y b L r ∈ lw_all) (hsta : Cond.static y ∈ lw_all) (hpar : (parseMethodDescriptor y.desc).map (fun d => d.parameters.length) = some As.length)
    (hM : xMet l s0 D y b L r rm As g post) (d : decode by0 pc = .ok (.invokestatic idx, 3)) (hq : pc + 3 = q) (hst : st = As.reverse ++ rest) (hrest : (rest.map fun v => v.category).sum ≤ 8) (hR : rm.frames + 1 ≤ R.frames ∧ 8 + (L + 11) + rm.locals ≤ R.locals) (hcs : cells + rm.cells ≤ R.cells ∧ slots + rm.slots ≤ R.slots)
    (k : ∀ (v : Option Value) (g' : xG), post v g' → XW p l e R s' ⟨cK, 1⟩ args' below' methk ck s0 D Q (cells + rm.cells) (slots + rm.slots) g' q lv (v.toList ++ rest)) : XW p l e R s' ⟨cK, 1⟩ args' below' methk ck s0 D Q cells slots g pc lv st := by
  refine x_run (a := As.toArray) (fun H locs ls hm hI hl => ?_) hq k
  refine wl_runS (y := y) (Pc := xPc s0 D g As) hC.1 hb (xl_back hC hG hini hM hW hR.1 hR.2) (fun T hT => ?_) (fun U hU hWU => ⟨rfl, State.WarmedH.trans (s := s0) (t := s) hC.warm (State.WarmedH.trans (s := s) (t := s') hW hWU), by rw [hU]; exact hI⟩) rfl (hl.1.trans hm.symm) hst (lv_room hrest) d hcs
  obtain ⟨k, tk, file, toy, t, f1, f2, f3, f4, f5, f6, f7, f8, f9⟩ := hfa T hT
  exact xl_hrS hC (State.WarmedH.trans (s := s) (t := s') hW hT) f1 f2 f3 f4 f5 f6 f7 f8 f9 hyn hcode hsta hini hpar
end LAMF
