/-! LAMBDAS: the object as it may be called; the calls of its frame -/
/-- a lambda's object, as it may be called -/
def xLamb (l : Launch) (s0 : State) (D : va_G) (sh : Jvm.Lambda.Shape) (by0 : ByteArray) (ml : Nat) (rt : FieldType) (rm : Room) (a : Nat) (As : List Value) (g : xG) (post : Option Value → xG → Prop) : Prop :=
  ∃ cK : ClassId, (∃ d, Jvm.Lambda.isMade { classPath := fun _ => none } s0.vm d sh cK = true) ∧ s0.lambdaCallable sh cK = true ∧
    ((∀ o ok, s0.vm.findClass "java/lang/Object" = some o → s0.vm.classes[o]? = some ok → ok.instanceTypes.size = 0) → ∀ vm' : Vm, s0.WarmedH vm' → ∃ (k : Class) (methk : Method) (ck : Code), vm'.classes[cK]? = some k ∧ k.name = "KilnBench$$Lambda" ∧ vm'.method? ⟨cK, 1⟩ = some methk ∧ methk.code = some ck ∧ ck.code = by0 ∧ ck.maxLocals = ml ∧ methk.locks = false ∧ methk.accessFlags = 0x0001 ∧ methk.sig.returnType = some rt) ∧
    (∀ H, xI s0 D g H → ∃ cell : Cell, H[a]? = some cell ∧ cell.cls = cK ∧ cell.vm = .none) ∧
    ∀ (p : Program) (e : Env) (s : State) (m : MethodId) (args : Array Value) (meth : Method) (c : Code) (own : String) (cc : ByteArray), xC p l s0 s D m args meth c own cc → ∀ (s' : State) (below' : List Frame) (methk : Method) (ck : Code), s.WarmedH s'.vm → s0.heap.size ≤ s'.heap.size → ck.code = by0 → methk.locks = false → methk.sig.returnType = some rt → XW p l e rm s' ⟨cK, 1⟩ (Value.ref a :: As).toArray below' methk ck s0 D (MQ below' (xQ s0 D post) (Value.ref a :: As).toArray s' rm.cells rm.slots (fun q => s0.heap.size ≤ q)) 0 0 g 0 (xpad ml (xarg (.ref a :: As))) []
section LAMM
variable {p : Program} {l : Launch} {e : Env} {R : Room} {s : State} {m : MethodId} {args : Array Value} {below : List Frame} {meth : Method} {c : Code} {s0 : State} {D : va_G} {Q : State → Prop} {cells slots : Nat} {g : xG} {own : String} {cc : ByteArray} {pc q : Nat} {lv : xL} {st : List Value}
theorem xC.obj00 (hC : xC p l s0 s D m args meth c own cc) : ∀ o ok, s0.vm.findClass "java/lang/Object" = some o → s0.vm.classes[o]? = some ok → ok.instanceTypes.size = 0 := by
  intro o ok h1 h2
  have hA := hC.warm.alike
  obtain ⟨ok0, h3, h4⟩ := hA.2.2 _ _ h2
  have := hC.obj0 o ok0 (by rw [hA.findClass]; exact h1) h3
  rw [h4] at this
  exact this
theorem x_callM (hC : xC p l s0 s D m args meth c own cc) {idx cnt a ml : Nat} {x : MethodName} {sh : Jvm.Lambda.Shape} {by0 : ByteArray} {rt : FieldType} {rm : Room} {As rest : List Value} {post : Option Value → xG → Prop} (hL : xLamb l s0 D sh by0 ml rt rm a As g post)
    (hl : Cond.methodLink own idx x ∈ lw_all) (hde : Cond.declares x ∈ lw_tbl) (hif : Cond.interfaceMethod x.cls x.cls x.name x.desc ∈ lw_tbl) (hx : x = ⟨sh.iface, sh.name, sh.sam.toString⟩)
    (hxn : x.cls ≠ "java/lang/invoke/MethodHandle" ∧ x.cls ≠ "java/lang/invoke/VarHandle") (hpar : (parseMethodDescriptor x.desc).map (fun d => d.parameters.length) = some As.length)
    (d : decode cc pc = .ok (.invokeinterface idx cnt, 5)) (hq : pc + 5 = q) (hst : st = As.reverse ++ .ref a :: rest) (hrest : (rest.map fun v => v.category).sum ≤ 8) (hlen : Nat.ble (lg_sl (.ref a :: As)).length ml = true)
    (hR : rm.frames + 1 ≤ R.frames ∧ 8 + (ml + 11) + rm.locals ≤ R.locals) (hcs : cells + rm.cells ≤ R.cells ∧ slots + rm.slots ≤ R.slots)
    (k : ∀ (v : Option Value) (g' : xG), post v g' → XW p l e R s m args below meth c s0 D Q (cells + rm.cells) (slots + rm.slots) g' q lv (v.toList ++ rest)) : XW p l e R s m args below meth c s0 D Q cells slots g pc lv st := by
  obtain ⟨cK, h1, h2, h3, h4, h5⟩ := hL
  exact x_callL hC hl hde hif hx hxn hpar h1 h2 (h3 hC.obj00) h4 d hq hst hrest hlen (h5 p e s m args meth c own cc hC) hR hcs k
/-- the entry of an instance method in the made class's pool -/
theorem xl_hrV (hC : xC p l s0 s D m args meth c own cc) {y : MethodName} {nA cK ci nt idx : Nat} {T : State} {k tk : Class} {file : ClassFile} {toy : ClassId} {t : MethodId} {b : ByteArray} {L : Nat} {r : Option FieldType}
    (hW : s.WarmedH T.vm) (hk : T.vm.classes[cK]? = some k) (hfile : k.cf = some file) (hP : file.constantPool[idx]? = some (.methodref ci nt)) (htoy : T.vm.findClass y.cls = some toy) (htk : T.vm.classes[toy]? = some tk) (hitf : tk.isInterface = false)
    (hlook : ((methodIn toy y.name y.desc tk.isInterface none).ask { classPath := fun _ => none } T.vm).1 = .ok t) (hready : T.vm.methodReady cK idx t) (hcl : T.vm.classReady cK ci toy)
    (hyn : y.cls ≠ "java/lang/invoke/MethodHandle" ∧ y.cls ≠ "java/lang/invoke/VarHandle") (hcode : Cond.code y b L r ∈ lw_all) (hins : Cond.instanceMethod y ∈ lw_all) (hsel : Cond.selects y.cls y y ∈ lw_all) (hpar : (parseMethodDescriptor y.desc).map (fun d => d.parameters.length) = some nA) :
    ∃ (mk : MethodId) (kt : Class) (mt : Method), namesAClass T cK idx ∧ T.vm.methodReady cK idx mk ∧ T.vm.classes[mk.cls]? = some kt ∧ T.vm.method? mk = some mt ∧ signaturePolymorphic kt mt = false ∧ mt.isStatic = false ∧ nA = mt.sig.parameters.length ∧ selectMethod {} T.vm toy mk = .method mk ∧ mt.isAbstract = false ∧ kt.isInterface = false ∧ T.methodNamed? y = some mk := by
  have hA := hW.alike
  obtain ⟨mk, mt, n1, n2, n3, n4⟩ := Cond.instanceMethod_spec (hC.hts _ hins)
  obtain ⟨mt', -, hmt', -, -, -, -, -, -, hsig⟩ := Cond.code_spec n1 (hC.hts _ hcode)
  cases n2.symm.trans hmt'
  obtain ⟨c1, r1, m1, s1, s2, s3, s4, -⟩ := Cond.selects_spec (hC.hts _ hsel)
  cases n1.symm.trans s3
  have hr1 : r1 = mk := Option.some.inj (s2.symm.trans (State.methodFound?_of_named n1 hyn))
  subst hr1
  have hnT : T.methodNamed? y = some r1 := by
    have := State.methodNamed?_setVm (s := s) hA y
    rw [n1] at this
    exact this
  have hfT : T.vm.findClass y.cls = some r1.cls := findClass_of_methodNamed hnT
  cases htoy.symm.trans hfT
  have hc1 : c1 = r1.cls := by
    have := s1
    rw [← hA.findClass, hfT] at this
    exact (Option.some.inj this).symm
  subst hc1
  have htB : t = r1 := by
    have h1 : T.methodFound? y.cls y.name y.desc = some r1 := State.methodFound?_of_named hnT hyn
    simp only [State.methodFound?, hfT, htk, Option.bind_eq_bind, Option.bind_some] at h1
    rw [hlook] at h1
    exact Option.some.inj h1
  subst htB
  obtain ⟨kT, hkT, hnameT⟩ := className_of_methodNamed hnT
  cases htk.symm.trans hkT
  have hmT : T.vm.method? t = some mt := by rw [hA.method?]; exact n2
  refine ⟨t, tk, mt, ⟨k, file, ci, nt, t.cls, tk, hk, hfile, hP, hcl, htk, hitf⟩, hready, htk, hmT, by simp [signaturePolymorphic, hnameT, hyn.1, hyn.2], n3, by rw [hsig] at hpar; exact (Option.some.inj hpar).symm, by rw [hA.selectMethod]; exact s4, n4, hitf, hnT⟩
/-- the entry of a static method in the made class's pool -/
theorem xl_hrS (hC : xC p l s0 s D m args meth c own cc) {y : MethodName} {nA cK ci nt idx : Nat} {T : State} {k tk : Class} {file : ClassFile} {toy : ClassId} {t : MethodId} {b : ByteArray} {L : Nat} {r : Option FieldType}
    (hW : s.WarmedH T.vm) (hk : T.vm.classes[cK]? = some k) (hfile : k.cf = some file) (hP : file.constantPool[idx]? = some (.methodref ci nt)) (hnt : file.constantPool.nameAndType? nt = some (y.name, y.desc)) (htoy : T.vm.findClass y.cls = some toy) (htk : T.vm.classes[toy]? = some tk)
    (hlook : ((methodIn toy y.name y.desc tk.isInterface none).ask { classPath := fun _ => none } T.vm).1 = .ok t) (hready : T.vm.methodReady cK idx t) (hcl : T.vm.classReady cK ci toy)
    (hyn : y.cls ≠ "java/lang/invoke/MethodHandle" ∧ y.cls ≠ "java/lang/invoke/VarHandle") (hcode : Cond.code y b L r ∈ lw_all) (hst : Cond.static y ∈ lw_all) (hini : Cond.initialized y.cls ∈ lw_all) (hpar : (parseMethodDescriptor y.desc).map (fun d => d.parameters.length) = some nA) :
    ∃ (mk : MethodId) (kt : Class) (mt : Method), plainRef T e cK idx ∧ T.vm.methodReady cK idx mk ∧ T.vm.classes[mk.cls]? = some kt ∧ T.vm.method? mk = some mt ∧ signaturePolymorphic kt mt = false ∧ mt.isStatic = true ∧ kt.init = .initialized ∧ nA = mt.sig.parameters.length ∧ T.methodNamed? y = some mk := by
  have hA := hW.alike
  have hcode' : (Cond.code y b L r).before args s = true := hC.hts _ hcode
  cases hnB : s.methodNamed? y with
  | none => simp [Cond.before, Cond.holds, Cond.value, hnB] at hcode'
  | some mB =>
  obtain ⟨mt, cB, hmB, -, -, -, -, -, -, hsig⟩ := Cond.code_spec hnB hcode'
  have hstB : mt.isStatic = true := Cond.static_spec hnB hmB (hC.hts _ hst)
  obtain ⟨kS, hkS, -⟩ := className_of_methodNamed hnB
  have hiS : kS.init = .initialized := Cond.initialized_spec (findClass_of_methodNamed hnB) hkS (hC.hts _ hini)
  have hnT : T.methodNamed? y = some mB := by
    have := State.methodNamed?_setVm (s := s) hA y
    rw [hnB] at this
    exact this
  have hfT : T.vm.findClass y.cls = some mB.cls := findClass_of_methodNamed hnT
  cases htoy.symm.trans hfT
  have htB : t = mB := by
    have h1 : T.methodFound? y.cls y.name y.desc = some mB := State.methodFound?_of_named hnT hyn
    simp only [State.methodFound?, hfT, htk, Option.bind_eq_bind, Option.bind_some] at h1
    rw [hlook] at h1
    exact Option.some.inj h1
  subst htB
  obtain ⟨kT, hkT, hnameT⟩ := className_of_methodNamed hnT
  cases htk.symm.trans hkT
  obtain ⟨kT2, hkT2, heT⟩ := hA.2.2 _ _ hkS
  cases htk.symm.trans hkT2
  have hmT : T.vm.method? t = some mt := by rw [hA.method?]; exact hmB
  have hsp : ∀ z : Method, signaturePolymorphic tk z = false := fun z => by simp [signaturePolymorphic, hnameT, hyn.1, hyn.2]
  obtain ⟨b1, hmem⟩ := memberRef_ask' (e := e) (vm := T.vm) (d := cK) (index := idx) hk hfile (Or.inl hP) hnt
  exact ⟨t, tk, mt, ⟨ci, _, _, b1, t.cls, tk, hmem, hcl, htk, by simp [hsp]⟩, hready, htk, hmT, hsp _, hstB, by rw [heT]; exact hiS, by rw [hsig] at hpar; exact (Option.some.inj hpar).symm, hnT⟩
end LAMM
