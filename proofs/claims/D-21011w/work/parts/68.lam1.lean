set_option maxRecDepth 100000
/-! LAMBDAS: the classes that are made for the sites -/
def xshOf (w : Cond) : Jvm.Lambda.Shape := match w with
  | .lambdaSite _ _ _ sh => sh
  | _ => { iface := "", name := "", sam := ⟨[], none⟩, captured := [], kind := 0, implClass := "", implName := "", implDesc := ⟨[], none⟩, implItf := false, inst := ⟨[], none⟩ }
def xcf0 : ClassFile := { minorVersion := 0, majorVersion := 0, constantPool := #[], accessFlags := 0, thisClass := 0, superClass := 0, interfaces := #[], fields := #[], methods := #[], attributes := #[] }
def xsh_1 : Jvm.Lambda.Shape := xshOf siteWord_1_1
def xDf_1 : ClassFile := (xsh_1.file "KilnBench").getD xcf0
def xfw_1 : Method := ((layoutMethods xDf_1).bind (·[1]?)).getD default
def xla_1 : Array Field × Array FieldType × Array FieldType := (layoutFields xDf_1 0).getD default
def xby_1 : ByteArray := ⟨#[43, 192, 0, 14, 184, 0, 20, 172]⟩
theorem xfi_1 : xsh_1.file "KilnBench" = some xDf_1 := by
  have h : (xsh_1.file "KilnBench").isSome = true := by decide +kernel
  obtain ⟨x, hx⟩ := Option.isSome_iff_exists.mp h
  simp [xDf_1, hx]
theorem xse_1 : ∀ ms, layoutMethods xDf_1 = some ms → ms[1]? = some xfw_1 := by
  intro ms hms
  have h : ((layoutMethods xDf_1).bind (·[1]?)).isSome = true := by decide +kernel
  obtain ⟨x, hx⟩ := Option.isSome_iff_exists.mp h
  have hf : xfw_1 = x := by simp [xfw_1, hx]
  rw [hms] at hx
  rw [hf]
  exact hx
theorem xli_1 : layoutFields xDf_1 0 = some xla_1 := by
  have h : (layoutFields xDf_1 0).isSome = true := by decide +kernel
  obtain ⟨x, hx⟩ := Option.isSome_iff_exists.mp h
  simp [xla_1, hx]
theorem xfc_1 : (xfw_1.code.map fun c => (c.code.data, c.maxLocals)) = some (xby_1.data, 2) := by decide +kernel
theorem xff_1 : (xfw_1.accessFlags, xfw_1.name, xfw_1.sig.returnType) = (0x0001, "is", some FieldType.boolean) := by decide +kernel
theorem xeM_1 : xDf_1.constantPool[20]? = some (.methodref 16 19) ∧ xDf_1.constantPool.className? 16 = some "KilnBench" ∧ xDf_1.constantPool.nameAndType? 19 = some ("lambda$has$0", "(LKilnBench$Child;)Z") := by decide +kernel
theorem xeC_1 : xDf_1.constantPool[16]? = some (.class_ 15) ∧ xDf_1.constantPool.string? 15 = some "KilnBench" ∧ 16 ≠ xDf_1.thisClass := by decide +kernel
theorem xeK_1 : xDf_1.constantPool[14]? = some (.class_ 13) ∧ xDf_1.constantPool.string? 13 = some "KilnBench$Child" ∧ 14 ≠ xDf_1.thisClass := by decide +kernel
theorem xmf_1 {e : Setting} {vm : Vm} {d c : ClassId} {dk : Class} (hd : vm.classes[d]? = some dk) (hname : dk.name = "KilnBench") (h : Jvm.Lambda.isMade e vm d xsh_1 c = true)
    (hO : ∀ o ok, vm.findClass "java/lang/Object" = some o → vm.classes[o]? = some ok → ok.instanceTypes.size = 0) :
    ∃ (k tk : Class) (file : ClassFile) (methk : Method) (ck : Code) (toy : ClassId) (t : MethodId) ,
      vm.classes[c]? = some k ∧ k.name = "KilnBench$$Lambda" ∧ k.cf = some file ∧ file.constantPool = xDf_1.constantPool ∧
      vm.method? ⟨c, 1⟩ = some methk ∧ methk.code = some ck ∧ ck.code = xby_1 ∧ ck.maxLocals = 2 ∧ methk.locks = false ∧ methk.accessFlags = 0x0001 ∧ methk.sig.returnType = some .boolean ∧
      vm.findClass "KilnBench" = some toy ∧ vm.classes[toy]? = some tk ∧ tk.isInterface = false ∧ ((methodIn toy "lambda$has$0" "(LKilnBench$Child;)Z" tk.isInterface none).ask e vm).1 = .ok t ∧
      vm.methodReady c 20 t ∧ vm.classReady c 16 toy ∧ (∀ x, vm.findClass "KilnBench$Child" = some x → vm.classReady c 14 x) := by
  obtain ⟨dk', k, ok, tk, file, cf, object, iface, toy, lay, methods, target, found, hd', hk, hfile, hcf, hobj, -, hok, hlay, hms, ht, htk, hg, -, hrec, -, -, -, hitf, hpool, hmeth, hfields, -, hres, -⟩ := Jvm.Lambda.isMade_spec h
  cases hd.symm.trans hd'
  rw [hname, xfi_1] at hcf
  cases hcf
  rw [hO object ok hobj hok, xli_1] at hlay
  cases hlay
  obtain ⟨b, hb, hsame⟩ := hmeth 1 xfw_1 (xse_1 methods hms)
  simp only [Jvm.Lambda.sameMethod, Bool.and_eq_true, decide_eq_true_eq] at hsame
  obtain ⟨⟨hn, -, hsig, hfl⟩, hcode⟩ := hsame
  have fc := xfc_1
  have ff := xff_1
  simp only [Prod.mk.injEq] at ff

  cases hfc : xfw_1.code with
  | none => rw [hfc] at fc; cases fc
  | some x =>
    cases hbc : b.code with
    | none => simp [hfc, hbc] at hcode
    | some y =>
      simp only [hfc, hbc, Bool.and_eq_true, decide_eq_true_eq] at hcode
      simp only [hfc, Option.map_some, Option.some.injEq, Prod.mk.injEq] at fc
      refine ⟨k, tk, file, b, y, toy, target, hk, by rw [hrec.1, hname]; rfl, hfile, hpool.2.1, by simp [Vm.method?, hk, hb], hbc, ?_, by rw [← hcode.1.1.1.1.2.1]; exact fc.2, ?_, by rw [← hfl]; exact ff.1, by rw [← hsig]; exact ff.2.2, ht, htk, hitf, hg,
        ⟨k, hk, hres 20 _ (Jvm.Lambda.resolvedOf_method xeM_1.1 xeM_1.2.1 ht htk xeM_1.2.2 hg)⟩, ⟨k, hk, hres 16 _ (Jvm.Lambda.resolvedOf_class xeC_1.1 xeC_1.2.2 xeC_1.2.1 ht)⟩, fun x hx => ⟨k, hk, hres 14 _ (Jvm.Lambda.resolvedOf_class xeK_1.1 xeK_1.2.2 xeK_1.2.1 hx)⟩⟩
      · rw [← hcode.1.1.1.1.2.2]
        exact ByteArray.ext fc.1
      · simp [Method.locks, Method.isSynchronized, ← hfl, ff.1, hasFlag, Acc.synchronized]
def xsh_2 : Jvm.Lambda.Shape := xshOf siteWord_1_2
def xDf_2 : ClassFile := (xsh_2.file "KilnBench").getD xcf0
def xfw_2 : Method := ((layoutMethods xDf_2).bind (·[1]?)).getD default
def xla_2 : Array Field × Array FieldType × Array FieldType := (layoutFields xDf_2 0).getD default
def xby_2 : ByteArray := ⟨#[43, 192, 0, 14, 184, 0, 20, 172]⟩
theorem xfi_2 : xsh_2.file "KilnBench" = some xDf_2 := by
  have h : (xsh_2.file "KilnBench").isSome = true := by decide +kernel
  obtain ⟨x, hx⟩ := Option.isSome_iff_exists.mp h
  simp [xDf_2, hx]
theorem xse_2 : ∀ ms, layoutMethods xDf_2 = some ms → ms[1]? = some xfw_2 := by
  intro ms hms
  have h : ((layoutMethods xDf_2).bind (·[1]?)).isSome = true := by decide +kernel
  obtain ⟨x, hx⟩ := Option.isSome_iff_exists.mp h
  have hf : xfw_2 = x := by simp [xfw_2, hx]
  rw [hms] at hx
  rw [hf]
  exact hx
theorem xli_2 : layoutFields xDf_2 0 = some xla_2 := by
  have h : (layoutFields xDf_2 0).isSome = true := by decide +kernel
  obtain ⟨x, hx⟩ := Option.isSome_iff_exists.mp h
  simp [xla_2, hx]
theorem xfc_2 : (xfw_2.code.map fun c => (c.code.data, c.maxLocals)) = some (xby_2.data, 2) := by decide +kernel
theorem xff_2 : (xfw_2.accessFlags, xfw_2.name, xfw_2.sig.returnType) = (0x0001, "is", some FieldType.boolean) := by decide +kernel
theorem xeM_2 : xDf_2.constantPool[20]? = some (.methodref 16 19) ∧ xDf_2.constantPool.className? 16 = some "KilnBench" ∧ xDf_2.constantPool.nameAndType? 19 = some ("lambda$has$1", "(LKilnBench$Child;)Z") := by decide +kernel
theorem xeC_2 : xDf_2.constantPool[16]? = some (.class_ 15) ∧ xDf_2.constantPool.string? 15 = some "KilnBench" ∧ 16 ≠ xDf_2.thisClass := by decide +kernel
theorem xeK_2 : xDf_2.constantPool[14]? = some (.class_ 13) ∧ xDf_2.constantPool.string? 13 = some "KilnBench$Child" ∧ 14 ≠ xDf_2.thisClass := by decide +kernel
theorem xmf_2 {e : Setting} {vm : Vm} {d c : ClassId} {dk : Class} (hd : vm.classes[d]? = some dk) (hname : dk.name = "KilnBench") (h : Jvm.Lambda.isMade e vm d xsh_2 c = true)
    (hO : ∀ o ok, vm.findClass "java/lang/Object" = some o → vm.classes[o]? = some ok → ok.instanceTypes.size = 0) :
    ∃ (k tk : Class) (file : ClassFile) (methk : Method) (ck : Code) (toy : ClassId) (t : MethodId) ,
      vm.classes[c]? = some k ∧ k.name = "KilnBench$$Lambda" ∧ k.cf = some file ∧ file.constantPool = xDf_2.constantPool ∧
      vm.method? ⟨c, 1⟩ = some methk ∧ methk.code = some ck ∧ ck.code = xby_2 ∧ ck.maxLocals = 2 ∧ methk.locks = false ∧ methk.accessFlags = 0x0001 ∧ methk.sig.returnType = some .boolean ∧
      vm.findClass "KilnBench" = some toy ∧ vm.classes[toy]? = some tk ∧ tk.isInterface = false ∧ ((methodIn toy "lambda$has$1" "(LKilnBench$Child;)Z" tk.isInterface none).ask e vm).1 = .ok t ∧
      vm.methodReady c 20 t ∧ vm.classReady c 16 toy ∧ (∀ x, vm.findClass "KilnBench$Child" = some x → vm.classReady c 14 x) := by
  obtain ⟨dk', k, ok, tk, file, cf, object, iface, toy, lay, methods, target, found, hd', hk, hfile, hcf, hobj, -, hok, hlay, hms, ht, htk, hg, -, hrec, -, -, -, hitf, hpool, hmeth, hfields, -, hres, -⟩ := Jvm.Lambda.isMade_spec h
  cases hd.symm.trans hd'
  rw [hname, xfi_2] at hcf
  cases hcf
  rw [hO object ok hobj hok, xli_2] at hlay
  cases hlay
  obtain ⟨b, hb, hsame⟩ := hmeth 1 xfw_2 (xse_2 methods hms)
  simp only [Jvm.Lambda.sameMethod, Bool.and_eq_true, decide_eq_true_eq] at hsame
  obtain ⟨⟨hn, -, hsig, hfl⟩, hcode⟩ := hsame
  have fc := xfc_2
  have ff := xff_2
  simp only [Prod.mk.injEq] at ff

  cases hfc : xfw_2.code with
  | none => rw [hfc] at fc; cases fc
  | some x =>
    cases hbc : b.code with
    | none => simp [hfc, hbc] at hcode
    | some y =>
      simp only [hfc, hbc, Bool.and_eq_true, decide_eq_true_eq] at hcode
      simp only [hfc, Option.map_some, Option.some.injEq, Prod.mk.injEq] at fc
      refine ⟨k, tk, file, b, y, toy, target, hk, by rw [hrec.1, hname]; rfl, hfile, hpool.2.1, by simp [Vm.method?, hk, hb], hbc, ?_, by rw [← hcode.1.1.1.1.2.1]; exact fc.2, ?_, by rw [← hfl]; exact ff.1, by rw [← hsig]; exact ff.2.2, ht, htk, hitf, hg,
        ⟨k, hk, hres 20 _ (Jvm.Lambda.resolvedOf_method xeM_2.1 xeM_2.2.1 ht htk xeM_2.2.2 hg)⟩, ⟨k, hk, hres 16 _ (Jvm.Lambda.resolvedOf_class xeC_2.1 xeC_2.2.2 xeC_2.2.1 ht)⟩, fun x hx => ⟨k, hk, hres 14 _ (Jvm.Lambda.resolvedOf_class xeK_2.1 xeK_2.2.2 xeK_2.2.1 hx)⟩⟩
      · rw [← hcode.1.1.1.1.2.2]
        exact ByteArray.ext fc.1
      · simp [Method.locks, Method.isSynchronized, ← hfl, ff.1, hasFlag, Acc.synchronized]
def xsh_3 : Jvm.Lambda.Shape := xshOf siteWord_1_3
def xDf_3 : ClassFile := (xsh_3.file "KilnBench").getD xcf0
def xfw_3 : Method := ((layoutMethods xDf_3).bind (·[1]?)).getD default
def xla_3 : Array Field × Array FieldType × Array FieldType := (layoutFields xDf_3 0).getD default
def xby_3 : ByteArray := ⟨#[43, 192, 0, 14, 184, 0, 20, 172]⟩
theorem xfi_3 : xsh_3.file "KilnBench" = some xDf_3 := by
  have h : (xsh_3.file "KilnBench").isSome = true := by decide +kernel
  obtain ⟨x, hx⟩ := Option.isSome_iff_exists.mp h
  simp [xDf_3, hx]
theorem xse_3 : ∀ ms, layoutMethods xDf_3 = some ms → ms[1]? = some xfw_3 := by
  intro ms hms
  have h : ((layoutMethods xDf_3).bind (·[1]?)).isSome = true := by decide +kernel
  obtain ⟨x, hx⟩ := Option.isSome_iff_exists.mp h
  have hf : xfw_3 = x := by simp [xfw_3, hx]
  rw [hms] at hx
  rw [hf]
  exact hx
theorem xli_3 : layoutFields xDf_3 0 = some xla_3 := by
  have h : (layoutFields xDf_3 0).isSome = true := by decide +kernel
  obtain ⟨x, hx⟩ := Option.isSome_iff_exists.mp h
  simp [xla_3, hx]
theorem xfc_3 : (xfw_3.code.map fun c => (c.code.data, c.maxLocals)) = some (xby_3.data, 2) := by decide +kernel
theorem xff_3 : (xfw_3.accessFlags, xfw_3.name, xfw_3.sig.returnType) = (0x0001, "is", some FieldType.boolean) := by decide +kernel
theorem xeM_3 : xDf_3.constantPool[20]? = some (.methodref 16 19) ∧ xDf_3.constantPool.className? 16 = some "KilnBench" ∧ xDf_3.constantPool.nameAndType? 19 = some ("lambda$has$2", "(LKilnBench$Child;)Z") := by decide +kernel
theorem xeC_3 : xDf_3.constantPool[16]? = some (.class_ 15) ∧ xDf_3.constantPool.string? 15 = some "KilnBench" ∧ 16 ≠ xDf_3.thisClass := by decide +kernel
theorem xeK_3 : xDf_3.constantPool[14]? = some (.class_ 13) ∧ xDf_3.constantPool.string? 13 = some "KilnBench$Child" ∧ 14 ≠ xDf_3.thisClass := by decide +kernel
theorem xmf_3 {e : Setting} {vm : Vm} {d c : ClassId} {dk : Class} (hd : vm.classes[d]? = some dk) (hname : dk.name = "KilnBench") (h : Jvm.Lambda.isMade e vm d xsh_3 c = true)
    (hO : ∀ o ok, vm.findClass "java/lang/Object" = some o → vm.classes[o]? = some ok → ok.instanceTypes.size = 0) :
    ∃ (k tk : Class) (file : ClassFile) (methk : Method) (ck : Code) (toy : ClassId) (t : MethodId) ,
      vm.classes[c]? = some k ∧ k.name = "KilnBench$$Lambda" ∧ k.cf = some file ∧ file.constantPool = xDf_3.constantPool ∧
      vm.method? ⟨c, 1⟩ = some methk ∧ methk.code = some ck ∧ ck.code = xby_3 ∧ ck.maxLocals = 2 ∧ methk.locks = false ∧ methk.accessFlags = 0x0001 ∧ methk.sig.returnType = some .boolean ∧
      vm.findClass "KilnBench" = some toy ∧ vm.classes[toy]? = some tk ∧ tk.isInterface = false ∧ ((methodIn toy "lambda$has$2" "(LKilnBench$Child;)Z" tk.isInterface none).ask e vm).1 = .ok t ∧
      vm.methodReady c 20 t ∧ vm.classReady c 16 toy ∧ (∀ x, vm.findClass "KilnBench$Child" = some x → vm.classReady c 14 x) := by
  obtain ⟨dk', k, ok, tk, file, cf, object, iface, toy, lay, methods, target, found, hd', hk, hfile, hcf, hobj, -, hok, hlay, hms, ht, htk, hg, -, hrec, -, -, -, hitf, hpool, hmeth, hfields, -, hres, -⟩ := Jvm.Lambda.isMade_spec h
  cases hd.symm.trans hd'
  rw [hname, xfi_3] at hcf
  cases hcf
  rw [hO object ok hobj hok, xli_3] at hlay
  cases hlay
  obtain ⟨b, hb, hsame⟩ := hmeth 1 xfw_3 (xse_3 methods hms)
  simp only [Jvm.Lambda.sameMethod, Bool.and_eq_true, decide_eq_true_eq] at hsame
  obtain ⟨⟨hn, -, hsig, hfl⟩, hcode⟩ := hsame
  have fc := xfc_3
  have ff := xff_3
  simp only [Prod.mk.injEq] at ff

  cases hfc : xfw_3.code with
  | none => rw [hfc] at fc; cases fc
  | some x =>
    cases hbc : b.code with
    | none => simp [hfc, hbc] at hcode
    | some y =>
      simp only [hfc, hbc, Bool.and_eq_true, decide_eq_true_eq] at hcode
      simp only [hfc, Option.map_some, Option.some.injEq, Prod.mk.injEq] at fc
      refine ⟨k, tk, file, b, y, toy, target, hk, by rw [hrec.1, hname]; rfl, hfile, hpool.2.1, by simp [Vm.method?, hk, hb], hbc, ?_, by rw [← hcode.1.1.1.1.2.1]; exact fc.2, ?_, by rw [← hfl]; exact ff.1, by rw [← hsig]; exact ff.2.2, ht, htk, hitf, hg,
        ⟨k, hk, hres 20 _ (Jvm.Lambda.resolvedOf_method xeM_3.1 xeM_3.2.1 ht htk xeM_3.2.2 hg)⟩, ⟨k, hk, hres 16 _ (Jvm.Lambda.resolvedOf_class xeC_3.1 xeC_3.2.2 xeC_3.2.1 ht)⟩, fun x hx => ⟨k, hk, hres 14 _ (Jvm.Lambda.resolvedOf_class xeK_3.1 xeK_3.2.2 xeK_3.2.1 hx)⟩⟩
      · rw [← hcode.1.1.1.1.2.2]
        exact ByteArray.ext fc.1
      · simp [Method.locks, Method.isSynchronized, ← hfl, ff.1, hasFlag, Acc.synchronized]
def xsh_4 : Jvm.Lambda.Shape := xshOf siteWord_1_4
def xDf_4 : ClassFile := (xsh_4.file "KilnBench").getD xcf0
def xfw_4 : Method := ((layoutMethods xDf_4).bind (·[1]?)).getD default
def xla_4 : Array Field × Array FieldType × Array FieldType := (layoutFields xDf_4 0).getD default
def xby_4 : ByteArray := ⟨#[43, 192, 0, 14, 184, 0, 20, 172]⟩
theorem xfi_4 : xsh_4.file "KilnBench" = some xDf_4 := by
  have h : (xsh_4.file "KilnBench").isSome = true := by decide +kernel
  obtain ⟨x, hx⟩ := Option.isSome_iff_exists.mp h
  simp [xDf_4, hx]
theorem xse_4 : ∀ ms, layoutMethods xDf_4 = some ms → ms[1]? = some xfw_4 := by
  intro ms hms
  have h : ((layoutMethods xDf_4).bind (·[1]?)).isSome = true := by decide +kernel
  obtain ⟨x, hx⟩ := Option.isSome_iff_exists.mp h
  have hf : xfw_4 = x := by simp [xfw_4, hx]
  rw [hms] at hx
  rw [hf]
  exact hx
theorem xli_4 : layoutFields xDf_4 0 = some xla_4 := by
  have h : (layoutFields xDf_4 0).isSome = true := by decide +kernel
  obtain ⟨x, hx⟩ := Option.isSome_iff_exists.mp h
  simp [xla_4, hx]
theorem xfc_4 : (xfw_4.code.map fun c => (c.code.data, c.maxLocals)) = some (xby_4.data, 2) := by decide +kernel
theorem xff_4 : (xfw_4.accessFlags, xfw_4.name, xfw_4.sig.returnType) = (0x0001, "is", some FieldType.boolean) := by decide +kernel
theorem xeM_4 : xDf_4.constantPool[20]? = some (.methodref 16 19) ∧ xDf_4.constantPool.className? 16 = some "KilnBench" ∧ xDf_4.constantPool.nameAndType? 19 = some ("lambda$has$3", "(LKilnBench$Kiln;)Z") := by decide +kernel
theorem xeC_4 : xDf_4.constantPool[16]? = some (.class_ 15) ∧ xDf_4.constantPool.string? 15 = some "KilnBench" ∧ 16 ≠ xDf_4.thisClass := by decide +kernel
theorem xeK_4 : xDf_4.constantPool[14]? = some (.class_ 13) ∧ xDf_4.constantPool.string? 13 = some "KilnBench$Kiln" ∧ 14 ≠ xDf_4.thisClass := by decide +kernel
theorem xmf_4 {e : Setting} {vm : Vm} {d c : ClassId} {dk : Class} (hd : vm.classes[d]? = some dk) (hname : dk.name = "KilnBench") (h : Jvm.Lambda.isMade e vm d xsh_4 c = true)
    (hO : ∀ o ok, vm.findClass "java/lang/Object" = some o → vm.classes[o]? = some ok → ok.instanceTypes.size = 0) :
    ∃ (k tk : Class) (file : ClassFile) (methk : Method) (ck : Code) (toy : ClassId) (t : MethodId) ,
      vm.classes[c]? = some k ∧ k.name = "KilnBench$$Lambda" ∧ k.cf = some file ∧ file.constantPool = xDf_4.constantPool ∧
      vm.method? ⟨c, 1⟩ = some methk ∧ methk.code = some ck ∧ ck.code = xby_4 ∧ ck.maxLocals = 2 ∧ methk.locks = false ∧ methk.accessFlags = 0x0001 ∧ methk.sig.returnType = some .boolean ∧
      vm.findClass "KilnBench" = some toy ∧ vm.classes[toy]? = some tk ∧ tk.isInterface = false ∧ ((methodIn toy "lambda$has$3" "(LKilnBench$Kiln;)Z" tk.isInterface none).ask e vm).1 = .ok t ∧
      vm.methodReady c 20 t ∧ vm.classReady c 16 toy ∧ (∀ x, vm.findClass "KilnBench$Kiln" = some x → vm.classReady c 14 x) := by
  obtain ⟨dk', k, ok, tk, file, cf, object, iface, toy, lay, methods, target, found, hd', hk, hfile, hcf, hobj, -, hok, hlay, hms, ht, htk, hg, -, hrec, -, -, -, hitf, hpool, hmeth, hfields, -, hres, -⟩ := Jvm.Lambda.isMade_spec h
  cases hd.symm.trans hd'
  rw [hname, xfi_4] at hcf
  cases hcf
  rw [hO object ok hobj hok, xli_4] at hlay
  cases hlay
  obtain ⟨b, hb, hsame⟩ := hmeth 1 xfw_4 (xse_4 methods hms)
  simp only [Jvm.Lambda.sameMethod, Bool.and_eq_true, decide_eq_true_eq] at hsame
  obtain ⟨⟨hn, -, hsig, hfl⟩, hcode⟩ := hsame
  have fc := xfc_4
  have ff := xff_4
  simp only [Prod.mk.injEq] at ff

  cases hfc : xfw_4.code with
  | none => rw [hfc] at fc; cases fc
  | some x =>
    cases hbc : b.code with
    | none => simp [hfc, hbc] at hcode
    | some y =>
      simp only [hfc, hbc, Bool.and_eq_true, decide_eq_true_eq] at hcode
      simp only [hfc, Option.map_some, Option.some.injEq, Prod.mk.injEq] at fc
      refine ⟨k, tk, file, b, y, toy, target, hk, by rw [hrec.1, hname]; rfl, hfile, hpool.2.1, by simp [Vm.method?, hk, hb], hbc, ?_, by rw [← hcode.1.1.1.1.2.1]; exact fc.2, ?_, by rw [← hfl]; exact ff.1, by rw [← hsig]; exact ff.2.2, ht, htk, hitf, hg,
        ⟨k, hk, hres 20 _ (Jvm.Lambda.resolvedOf_method xeM_4.1 xeM_4.2.1 ht htk xeM_4.2.2 hg)⟩, ⟨k, hk, hres 16 _ (Jvm.Lambda.resolvedOf_class xeC_4.1 xeC_4.2.2 xeC_4.2.1 ht)⟩, fun x hx => ⟨k, hk, hres 14 _ (Jvm.Lambda.resolvedOf_class xeK_4.1 xeK_4.2.2 xeK_4.2.1 hx)⟩⟩
      · rw [← hcode.1.1.1.1.2.2]
        exact ByteArray.ext fc.1
      · simp [Method.locks, Method.isSynchronized, ← hfl, ff.1, hasFlag, Acc.synchronized]
def xsh_5 : Jvm.Lambda.Shape := xshOf siteWord_1_5
def xDf_5 : ClassFile := (xsh_5.file "KilnBench").getD xcf0
def xfw_5 : Method := ((layoutMethods xDf_5).bind (·[1]?)).getD default
def xla_5 : Array Field × Array FieldType × Array FieldType := (layoutFields xDf_5 0).getD default
def xby_5 : ByteArray := ⟨#[42, 180, 0, 21, 42, 180, 0, 23, 42, 180, 0, 25, 42, 180, 0, 27, 42, 180, 0, 29, 27, 182, 0, 37, 172]⟩
theorem xfi_5 : xsh_5.file "KilnBench" = some xDf_5 := by
  have h : (xsh_5.file "KilnBench").isSome = true := by decide +kernel
  obtain ⟨x, hx⟩ := Option.isSome_iff_exists.mp h
  simp [xDf_5, hx]
theorem xse_5 : ∀ ms, layoutMethods xDf_5 = some ms → ms[1]? = some xfw_5 := by
  intro ms hms
  have h : ((layoutMethods xDf_5).bind (·[1]?)).isSome = true := by decide +kernel
  obtain ⟨x, hx⟩ := Option.isSome_iff_exists.mp h
  have hf : xfw_5 = x := by simp [xfw_5, hx]
  rw [hms] at hx
  rw [hf]
  exact hx
theorem xli_5 : layoutFields xDf_5 0 = some xla_5 := by
  have h : (layoutFields xDf_5 0).isSome = true := by decide +kernel
  obtain ⟨x, hx⟩ := Option.isSome_iff_exists.mp h
  simp [xla_5, hx]
theorem xfc_5 : (xfw_5.code.map fun c => (c.code.data, c.maxLocals)) = some (xby_5.data, 2) := by decide +kernel
theorem xff_5 : (xfw_5.accessFlags, xfw_5.name, xfw_5.sig.returnType) = (0x0001, "is", some FieldType.boolean) := by decide +kernel
theorem xeM_5 : xDf_5.constantPool[37]? = some (.methodref 33 36) ∧ xDf_5.constantPool.className? 33 = some "KilnBench" ∧ xDf_5.constantPool.nameAndType? 36 = some ("lambda$heats$4", "(LKilnBench$Child;IIII)Z") := by decide +kernel
theorem xeC_5 : xDf_5.constantPool[33]? = some (.class_ 32) ∧ xDf_5.constantPool.string? 32 = some "KilnBench" ∧ 33 ≠ xDf_5.thisClass := by decide +kernel
theorem xeF_5_0 : xDf_5.constantPool[21]? = some (.fieldref 2 20) ∧ xDf_5.constantPool.nameAndType? 20 = some ("arg$1", "LKilnBench;") ∧ xla_5.1.findIdx? (·.name == "arg$1") = some 0 ∧ (xla_5.1[0]?).map (fun f => (f.isStatic, f.slot)) = some (false, 0) := by decide +kernel
theorem xeF_5_1 : xDf_5.constantPool[23]? = some (.fieldref 2 22) ∧ xDf_5.constantPool.nameAndType? 22 = some ("arg$2", "LKilnBench$Child;") ∧ xla_5.1.findIdx? (·.name == "arg$2") = some 1 ∧ (xla_5.1[1]?).map (fun f => (f.isStatic, f.slot)) = some (false, 1) := by decide +kernel
theorem xeF_5_2 : xDf_5.constantPool[25]? = some (.fieldref 2 24) ∧ xDf_5.constantPool.nameAndType? 24 = some ("arg$3", "I") ∧ xla_5.1.findIdx? (·.name == "arg$3") = some 2 ∧ (xla_5.1[2]?).map (fun f => (f.isStatic, f.slot)) = some (false, 2) := by decide +kernel
theorem xeF_5_3 : xDf_5.constantPool[27]? = some (.fieldref 2 26) ∧ xDf_5.constantPool.nameAndType? 26 = some ("arg$4", "I") ∧ xla_5.1.findIdx? (·.name == "arg$4") = some 3 ∧ (xla_5.1[3]?).map (fun f => (f.isStatic, f.slot)) = some (false, 3) := by decide +kernel
theorem xeF_5_4 : xDf_5.constantPool[29]? = some (.fieldref 2 28) ∧ xDf_5.constantPool.nameAndType? 28 = some ("arg$5", "I") ∧ xla_5.1.findIdx? (·.name == "arg$5") = some 4 ∧ (xla_5.1[4]?).map (fun f => (f.isStatic, f.slot)) = some (false, 4) := by decide +kernel
theorem xmf_5 {e : Setting} {vm : Vm} {d c : ClassId} {dk : Class} (hd : vm.classes[d]? = some dk) (hname : dk.name = "KilnBench") (h : Jvm.Lambda.isMade e vm d xsh_5 c = true)
    (hO : ∀ o ok, vm.findClass "java/lang/Object" = some o → vm.classes[o]? = some ok → ok.instanceTypes.size = 0) :
    ∃ (k tk : Class) (file : ClassFile) (methk : Method) (ck : Code) (toy : ClassId) (t : MethodId) (f0 : Field) (f1 : Field) (f2 : Field) (f3 : Field) (f4 : Field),
      vm.classes[c]? = some k ∧ k.name = "KilnBench$$Lambda" ∧ k.cf = some file ∧ file.constantPool = xDf_5.constantPool ∧
      vm.method? ⟨c, 1⟩ = some methk ∧ methk.code = some ck ∧ ck.code = xby_5 ∧ ck.maxLocals = 2 ∧ methk.locks = false ∧ methk.accessFlags = 0x0001 ∧ methk.sig.returnType = some .boolean ∧
      vm.findClass "KilnBench" = some toy ∧ vm.classes[toy]? = some tk ∧ tk.isInterface = false ∧ ((methodIn toy "lambda$heats$4" "(LKilnBench$Child;IIII)Z" tk.isInterface none).ask e vm).1 = .ok t ∧
      vm.methodReady c 37 t ∧ vm.classReady c 33 toy ∧ vm.fieldReady c 21 c f0 ∧ f0.isStatic = false ∧ f0.slot = 0 ∧ vm.fieldReady c 23 c f1 ∧ f1.isStatic = false ∧ f1.slot = 1 ∧ vm.fieldReady c 25 c f2 ∧ f2.isStatic = false ∧ f2.slot = 2 ∧ vm.fieldReady c 27 c f3 ∧ f3.isStatic = false ∧ f3.slot = 3 ∧ vm.fieldReady c 29 c f4 ∧ f4.isStatic = false ∧ f4.slot = 4 := by
  obtain ⟨dk', k, ok, tk, file, cf, object, iface, toy, lay, methods, target, found, hd', hk, hfile, hcf, hobj, -, hok, hlay, hms, ht, htk, hg, -, hrec, -, -, -, hitf, hpool, hmeth, hfields, -, hres, -⟩ := Jvm.Lambda.isMade_spec h
  cases hd.symm.trans hd'
  rw [hname, xfi_5] at hcf
  cases hcf
  rw [hO object ok hobj hok, xli_5] at hlay
  cases hlay
  obtain ⟨b, hb, hsame⟩ := hmeth 1 xfw_5 (xse_5 methods hms)
  simp only [Jvm.Lambda.sameMethod, Bool.and_eq_true, decide_eq_true_eq] at hsame
  obtain ⟨⟨hn, -, hsig, hfl⟩, hcode⟩ := hsame
  have fc := xfc_5
  have ff := xff_5
  simp only [Prod.mk.injEq] at ff
  obtain ⟨g0, hg0, hp0⟩ := Option.map_eq_some_iff.mp xeF_5_0.2.2.2
  simp only [Prod.mk.injEq] at hp0
  obtain ⟨g1, hg1, hp1⟩ := Option.map_eq_some_iff.mp xeF_5_1.2.2.2
  simp only [Prod.mk.injEq] at hp1
  obtain ⟨g2, hg2, hp2⟩ := Option.map_eq_some_iff.mp xeF_5_2.2.2.2
  simp only [Prod.mk.injEq] at hp2
  obtain ⟨g3, hg3, hp3⟩ := Option.map_eq_some_iff.mp xeF_5_3.2.2.2
  simp only [Prod.mk.injEq] at hp3
  obtain ⟨g4, hg4, hp4⟩ := Option.map_eq_some_iff.mp xeF_5_4.2.2.2
  simp only [Prod.mk.injEq] at hp4
  cases hfc : xfw_5.code with
  | none => rw [hfc] at fc; cases fc
  | some x =>
    cases hbc : b.code with
    | none => simp [hfc, hbc] at hcode
    | some y =>
      simp only [hfc, hbc, Bool.and_eq_true, decide_eq_true_eq] at hcode
      simp only [hfc, Option.map_some, Option.some.injEq, Prod.mk.injEq] at fc
      refine ⟨k, tk, file, b, y, toy, target, g0, g1, g2, g3, g4, hk, by rw [hrec.1, hname]; rfl, hfile, hpool.2.1, by simp [Vm.method?, hk, hb], hbc, ?_, by rw [← hcode.1.1.1.1.2.1]; exact fc.2, ?_, by rw [← hfl]; exact ff.1, by rw [← hsig]; exact ff.2.2, ht, htk, hitf, hg,
        ⟨k, hk, hres 37 _ (Jvm.Lambda.resolvedOf_method xeM_5.1 xeM_5.2.1 ht htk xeM_5.2.2 hg)⟩, ⟨k, hk, hres 33 _ (Jvm.Lambda.resolvedOf_class xeC_5.1 xeC_5.2.2 xeC_5.2.1 ht)⟩, ⟨k, 0, k, hk, hres 21 _ (Jvm.Lambda.resolvedOf_field xeF_5_0.1 xeF_5_0.2.1 xeF_5_0.2.2.1), hk, hfields 0 _ hg0⟩, hp0.1, hp0.2, ⟨k, 1, k, hk, hres 23 _ (Jvm.Lambda.resolvedOf_field xeF_5_1.1 xeF_5_1.2.1 xeF_5_1.2.2.1), hk, hfields 1 _ hg1⟩, hp1.1, hp1.2, ⟨k, 2, k, hk, hres 25 _ (Jvm.Lambda.resolvedOf_field xeF_5_2.1 xeF_5_2.2.1 xeF_5_2.2.2.1), hk, hfields 2 _ hg2⟩, hp2.1, hp2.2, ⟨k, 3, k, hk, hres 27 _ (Jvm.Lambda.resolvedOf_field xeF_5_3.1 xeF_5_3.2.1 xeF_5_3.2.2.1), hk, hfields 3 _ hg3⟩, hp3.1, hp3.2, ⟨k, 4, k, hk, hres 29 _ (Jvm.Lambda.resolvedOf_field xeF_5_4.1 xeF_5_4.2.1 xeF_5_4.2.2.1), hk, hfields 4 _ hg4⟩, hp4.1, hp4.2⟩
      · rw [← hcode.1.1.1.1.2.2]
        exact ByteArray.ext fc.1
      · simp [Method.locks, Method.isSynchronized, ← hfl, ff.1, hasFlag, Acc.synchronized]
def xsh_6 : Jvm.Lambda.Shape := xshOf siteWord_1_6
def xDf_6 : ClassFile := (xsh_6.file "KilnBench").getD xcf0
def xfw_6 : Method := ((layoutMethods xDf_6).bind (·[1]?)).getD default
def xla_6 : Array Field × Array FieldType × Array FieldType := (layoutFields xDf_6 0).getD default
def xby_6 : ByteArray := ⟨#[42, 180, 0, 15, 182, 0, 22, 172]⟩
theorem xfi_6 : xsh_6.file "KilnBench" = some xDf_6 := by
  have h : (xsh_6.file "KilnBench").isSome = true := by decide +kernel
  obtain ⟨x, hx⟩ := Option.isSome_iff_exists.mp h
  simp [xDf_6, hx]
theorem xse_6 : ∀ ms, layoutMethods xDf_6 = some ms → ms[1]? = some xfw_6 := by
  intro ms hms
  have h : ((layoutMethods xDf_6).bind (·[1]?)).isSome = true := by decide +kernel
  obtain ⟨x, hx⟩ := Option.isSome_iff_exists.mp h
  have hf : xfw_6 = x := by simp [xfw_6, hx]
  rw [hms] at hx
  rw [hf]
  exact hx
theorem xli_6 : layoutFields xDf_6 0 = some xla_6 := by
  have h : (layoutFields xDf_6 0).isSome = true := by decide +kernel
  obtain ⟨x, hx⟩ := Option.isSome_iff_exists.mp h
  simp [xla_6, hx]
theorem xfc_6 : (xfw_6.code.map fun c => (c.code.data, c.maxLocals)) = some (xby_6.data, 1) := by decide +kernel
theorem xff_6 : (xfw_6.accessFlags, xfw_6.name, xfw_6.sig.returnType) = (0x0001, "of", some FieldType.int) := by decide +kernel
theorem xeM_6 : xDf_6.constantPool[22]? = some (.methodref 19 21) ∧ xDf_6.constantPool.className? 19 = some "KilnBench" ∧ xDf_6.constantPool.nameAndType? 21 = some ("lambda$fuel$5", "()I") := by decide +kernel
theorem xeC_6 : xDf_6.constantPool[19]? = some (.class_ 18) ∧ xDf_6.constantPool.string? 18 = some "KilnBench" ∧ 19 ≠ xDf_6.thisClass := by decide +kernel
theorem xeF_6_0 : xDf_6.constantPool[15]? = some (.fieldref 2 14) ∧ xDf_6.constantPool.nameAndType? 14 = some ("arg$1", "LKilnBench;") ∧ xla_6.1.findIdx? (·.name == "arg$1") = some 0 ∧ (xla_6.1[0]?).map (fun f => (f.isStatic, f.slot)) = some (false, 0) := by decide +kernel
theorem xmf_6 {e : Setting} {vm : Vm} {d c : ClassId} {dk : Class} (hd : vm.classes[d]? = some dk) (hname : dk.name = "KilnBench") (h : Jvm.Lambda.isMade e vm d xsh_6 c = true)
    (hO : ∀ o ok, vm.findClass "java/lang/Object" = some o → vm.classes[o]? = some ok → ok.instanceTypes.size = 0) :
    ∃ (k tk : Class) (file : ClassFile) (methk : Method) (ck : Code) (toy : ClassId) (t : MethodId) (f0 : Field),
      vm.classes[c]? = some k ∧ k.name = "KilnBench$$Lambda" ∧ k.cf = some file ∧ file.constantPool = xDf_6.constantPool ∧
      vm.method? ⟨c, 1⟩ = some methk ∧ methk.code = some ck ∧ ck.code = xby_6 ∧ ck.maxLocals = 1 ∧ methk.locks = false ∧ methk.accessFlags = 0x0001 ∧ methk.sig.returnType = some .int ∧
      vm.findClass "KilnBench" = some toy ∧ vm.classes[toy]? = some tk ∧ tk.isInterface = false ∧ ((methodIn toy "lambda$fuel$5" "()I" tk.isInterface none).ask e vm).1 = .ok t ∧
      vm.methodReady c 22 t ∧ vm.classReady c 19 toy ∧ vm.fieldReady c 15 c f0 ∧ f0.isStatic = false ∧ f0.slot = 0 := by
  obtain ⟨dk', k, ok, tk, file, cf, object, iface, toy, lay, methods, target, found, hd', hk, hfile, hcf, hobj, -, hok, hlay, hms, ht, htk, hg, -, hrec, -, -, -, hitf, hpool, hmeth, hfields, -, hres, -⟩ := Jvm.Lambda.isMade_spec h
  cases hd.symm.trans hd'
  rw [hname, xfi_6] at hcf
  cases hcf
  rw [hO object ok hobj hok, xli_6] at hlay
  cases hlay
  obtain ⟨b, hb, hsame⟩ := hmeth 1 xfw_6 (xse_6 methods hms)
  simp only [Jvm.Lambda.sameMethod, Bool.and_eq_true, decide_eq_true_eq] at hsame
  obtain ⟨⟨hn, -, hsig, hfl⟩, hcode⟩ := hsame
  have fc := xfc_6
  have ff := xff_6
  simp only [Prod.mk.injEq] at ff
  obtain ⟨g0, hg0, hp0⟩ := Option.map_eq_some_iff.mp xeF_6_0.2.2.2
  simp only [Prod.mk.injEq] at hp0
  cases hfc : xfw_6.code with
  | none => rw [hfc] at fc; cases fc
  | some x =>
    cases hbc : b.code with
    | none => simp [hfc, hbc] at hcode
    | some y =>
      simp only [hfc, hbc, Bool.and_eq_true, decide_eq_true_eq] at hcode
      simp only [hfc, Option.map_some, Option.some.injEq, Prod.mk.injEq] at fc
      refine ⟨k, tk, file, b, y, toy, target, g0, hk, by rw [hrec.1, hname]; rfl, hfile, hpool.2.1, by simp [Vm.method?, hk, hb], hbc, ?_, by rw [← hcode.1.1.1.1.2.1]; exact fc.2, ?_, by rw [← hfl]; exact ff.1, by rw [← hsig]; exact ff.2.2, ht, htk, hitf, hg,
        ⟨k, hk, hres 22 _ (Jvm.Lambda.resolvedOf_method xeM_6.1 xeM_6.2.1 ht htk xeM_6.2.2 hg)⟩, ⟨k, hk, hres 19 _ (Jvm.Lambda.resolvedOf_class xeC_6.1 xeC_6.2.2 xeC_6.2.1 ht)⟩, ⟨k, 0, k, hk, hres 15 _ (Jvm.Lambda.resolvedOf_field xeF_6_0.1 xeF_6_0.2.1 xeF_6_0.2.2.1), hk, hfields 0 _ hg0⟩, hp0.1, hp0.2⟩
      · rw [← hcode.1.1.1.1.2.2]
        exact ByteArray.ext fc.1
      · simp [Method.locks, Method.isSynchronized, ← hfl, ff.1, hasFlag, Acc.synchronized]
def xsh_7 : Jvm.Lambda.Shape := xshOf siteWord_1_7
def xDf_7 : ClassFile := (xsh_7.file "KilnBench").getD xcf0
def xfw_7 : Method := ((layoutMethods xDf_7).bind (·[1]?)).getD default
def xla_7 : Array Field × Array FieldType × Array FieldType := (layoutFields xDf_7 0).getD default
def xby_7 : ByteArray := ⟨#[42, 180, 0, 15, 184, 0, 23, 172]⟩
theorem xfi_7 : xsh_7.file "KilnBench" = some xDf_7 := by
  have h : (xsh_7.file "KilnBench").isSome = true := by decide +kernel
  obtain ⟨x, hx⟩ := Option.isSome_iff_exists.mp h
  simp [xDf_7, hx]
theorem xse_7 : ∀ ms, layoutMethods xDf_7 = some ms → ms[1]? = some xfw_7 := by
  intro ms hms
  have h : ((layoutMethods xDf_7).bind (·[1]?)).isSome = true := by decide +kernel
  obtain ⟨x, hx⟩ := Option.isSome_iff_exists.mp h
  have hf : xfw_7 = x := by simp [xfw_7, hx]
  rw [hms] at hx
  rw [hf]
  exact hx
theorem xli_7 : layoutFields xDf_7 0 = some xla_7 := by
  have h : (layoutFields xDf_7 0).isSome = true := by decide +kernel
  obtain ⟨x, hx⟩ := Option.isSome_iff_exists.mp h
  simp [xla_7, hx]
theorem xfc_7 : (xfw_7.code.map fun c => (c.code.data, c.maxLocals)) = some (xby_7.data, 1) := by decide +kernel
theorem xff_7 : (xfw_7.accessFlags, xfw_7.name, xfw_7.sig.returnType) = (0x0001, "of", some FieldType.int) := by decide +kernel
theorem xeM_7 : xDf_7.constantPool[23]? = some (.methodref 19 22) ∧ xDf_7.constantPool.className? 19 = some "KilnBench" ∧ xDf_7.constantPool.nameAndType? 22 = some ("lambda$later$6", "(LKilnBench$Child;)I") := by decide +kernel
theorem xeC_7 : xDf_7.constantPool[19]? = some (.class_ 18) ∧ xDf_7.constantPool.string? 18 = some "KilnBench" ∧ 19 ≠ xDf_7.thisClass := by decide +kernel
theorem xeF_7_0 : xDf_7.constantPool[15]? = some (.fieldref 2 14) ∧ xDf_7.constantPool.nameAndType? 14 = some ("arg$1", "LKilnBench$Child;") ∧ xla_7.1.findIdx? (·.name == "arg$1") = some 0 ∧ (xla_7.1[0]?).map (fun f => (f.isStatic, f.slot)) = some (false, 0) := by decide +kernel
theorem xmf_7 {e : Setting} {vm : Vm} {d c : ClassId} {dk : Class} (hd : vm.classes[d]? = some dk) (hname : dk.name = "KilnBench") (h : Jvm.Lambda.isMade e vm d xsh_7 c = true)
    (hO : ∀ o ok, vm.findClass "java/lang/Object" = some o → vm.classes[o]? = some ok → ok.instanceTypes.size = 0) :
    ∃ (k tk : Class) (file : ClassFile) (methk : Method) (ck : Code) (toy : ClassId) (t : MethodId) (f0 : Field),
      vm.classes[c]? = some k ∧ k.name = "KilnBench$$Lambda" ∧ k.cf = some file ∧ file.constantPool = xDf_7.constantPool ∧
      vm.method? ⟨c, 1⟩ = some methk ∧ methk.code = some ck ∧ ck.code = xby_7 ∧ ck.maxLocals = 1 ∧ methk.locks = false ∧ methk.accessFlags = 0x0001 ∧ methk.sig.returnType = some .int ∧
      vm.findClass "KilnBench" = some toy ∧ vm.classes[toy]? = some tk ∧ tk.isInterface = false ∧ ((methodIn toy "lambda$later$6" "(LKilnBench$Child;)I" tk.isInterface none).ask e vm).1 = .ok t ∧
      vm.methodReady c 23 t ∧ vm.classReady c 19 toy ∧ vm.fieldReady c 15 c f0 ∧ f0.isStatic = false ∧ f0.slot = 0 := by
  obtain ⟨dk', k, ok, tk, file, cf, object, iface, toy, lay, methods, target, found, hd', hk, hfile, hcf, hobj, -, hok, hlay, hms, ht, htk, hg, -, hrec, -, -, -, hitf, hpool, hmeth, hfields, -, hres, -⟩ := Jvm.Lambda.isMade_spec h
  cases hd.symm.trans hd'
  rw [hname, xfi_7] at hcf
  cases hcf
  rw [hO object ok hobj hok, xli_7] at hlay
  cases hlay
  obtain ⟨b, hb, hsame⟩ := hmeth 1 xfw_7 (xse_7 methods hms)
  simp only [Jvm.Lambda.sameMethod, Bool.and_eq_true, decide_eq_true_eq] at hsame
  obtain ⟨⟨hn, -, hsig, hfl⟩, hcode⟩ := hsame
  have fc := xfc_7
  have ff := xff_7
  simp only [Prod.mk.injEq] at ff
  obtain ⟨g0, hg0, hp0⟩ := Option.map_eq_some_iff.mp xeF_7_0.2.2.2
  simp only [Prod.mk.injEq] at hp0
  cases hfc : xfw_7.code with
  | none => rw [hfc] at fc; cases fc
  | some x =>
    cases hbc : b.code with
    | none => simp [hfc, hbc] at hcode
    | some y =>
      simp only [hfc, hbc, Bool.and_eq_true, decide_eq_true_eq] at hcode
      simp only [hfc, Option.map_some, Option.some.injEq, Prod.mk.injEq] at fc
      refine ⟨k, tk, file, b, y, toy, target, g0, hk, by rw [hrec.1, hname]; rfl, hfile, hpool.2.1, by simp [Vm.method?, hk, hb], hbc, ?_, by rw [← hcode.1.1.1.1.2.1]; exact fc.2, ?_, by rw [← hfl]; exact ff.1, by rw [← hsig]; exact ff.2.2, ht, htk, hitf, hg,
        ⟨k, hk, hres 23 _ (Jvm.Lambda.resolvedOf_method xeM_7.1 xeM_7.2.1 ht htk xeM_7.2.2 hg)⟩, ⟨k, hk, hres 19 _ (Jvm.Lambda.resolvedOf_class xeC_7.1 xeC_7.2.2 xeC_7.2.1 ht)⟩, ⟨k, 0, k, hk, hres 15 _ (Jvm.Lambda.resolvedOf_field xeF_7_0.1 xeF_7_0.2.1 xeF_7_0.2.2.1), hk, hfields 0 _ hg0⟩, hp0.1, hp0.2⟩
      · rw [← hcode.1.1.1.1.2.2]
        exact ByteArray.ext fc.1
      · simp [Method.locks, Method.isSynchronized, ← hfl, ff.1, hasFlag, Acc.synchronized]
def xsh_8 : Jvm.Lambda.Shape := xshOf siteWord_1_8
def xDf_8 : ClassFile := (xsh_8.file "KilnBench").getD xcf0
def xfw_8 : Method := ((layoutMethods xDf_8).bind (·[1]?)).getD default
def xla_8 : Array Field × Array FieldType × Array FieldType := (layoutFields xDf_8 0).getD default
def xby_8 : ByteArray := ⟨#[42, 180, 0, 15, 27, 182, 0, 22, 172]⟩
theorem xfi_8 : xsh_8.file "KilnBench" = some xDf_8 := by
  have h : (xsh_8.file "KilnBench").isSome = true := by decide +kernel
  obtain ⟨x, hx⟩ := Option.isSome_iff_exists.mp h
  simp [xDf_8, hx]
theorem xse_8 : ∀ ms, layoutMethods xDf_8 = some ms → ms[1]? = some xfw_8 := by
  intro ms hms
  have h : ((layoutMethods xDf_8).bind (·[1]?)).isSome = true := by decide +kernel
  obtain ⟨x, hx⟩ := Option.isSome_iff_exists.mp h
  have hf : xfw_8 = x := by simp [xfw_8, hx]
  rw [hms] at hx
  rw [hf]
  exact hx
theorem xli_8 : layoutFields xDf_8 0 = some xla_8 := by
  have h : (layoutFields xDf_8 0).isSome = true := by decide +kernel
  obtain ⟨x, hx⟩ := Option.isSome_iff_exists.mp h
  simp [xla_8, hx]
theorem xfc_8 : (xfw_8.code.map fun c => (c.code.data, c.maxLocals)) = some (xby_8.data, 2) := by decide +kernel
theorem xff_8 : (xfw_8.accessFlags, xfw_8.name, xfw_8.sig.returnType) = (0x0001, "is", some FieldType.boolean) := by decide +kernel
theorem xeM_8 : xDf_8.constantPool[22]? = some (.methodref 19 21) ∧ xDf_8.constantPool.className? 19 = some "KilnBench" ∧ xDf_8.constantPool.nameAndType? 21 = some ("lambda$seen$7", "(I)Z") := by decide +kernel
theorem xeC_8 : xDf_8.constantPool[19]? = some (.class_ 18) ∧ xDf_8.constantPool.string? 18 = some "KilnBench" ∧ 19 ≠ xDf_8.thisClass := by decide +kernel
theorem xeF_8_0 : xDf_8.constantPool[15]? = some (.fieldref 2 14) ∧ xDf_8.constantPool.nameAndType? 14 = some ("arg$1", "LKilnBench;") ∧ xla_8.1.findIdx? (·.name == "arg$1") = some 0 ∧ (xla_8.1[0]?).map (fun f => (f.isStatic, f.slot)) = some (false, 0) := by decide +kernel
theorem xmf_8 {e : Setting} {vm : Vm} {d c : ClassId} {dk : Class} (hd : vm.classes[d]? = some dk) (hname : dk.name = "KilnBench") (h : Jvm.Lambda.isMade e vm d xsh_8 c = true)
    (hO : ∀ o ok, vm.findClass "java/lang/Object" = some o → vm.classes[o]? = some ok → ok.instanceTypes.size = 0) :
    ∃ (k tk : Class) (file : ClassFile) (methk : Method) (ck : Code) (toy : ClassId) (t : MethodId) (f0 : Field),
      vm.classes[c]? = some k ∧ k.name = "KilnBench$$Lambda" ∧ k.cf = some file ∧ file.constantPool = xDf_8.constantPool ∧
      vm.method? ⟨c, 1⟩ = some methk ∧ methk.code = some ck ∧ ck.code = xby_8 ∧ ck.maxLocals = 2 ∧ methk.locks = false ∧ methk.accessFlags = 0x0001 ∧ methk.sig.returnType = some .boolean ∧
      vm.findClass "KilnBench" = some toy ∧ vm.classes[toy]? = some tk ∧ tk.isInterface = false ∧ ((methodIn toy "lambda$seen$7" "(I)Z" tk.isInterface none).ask e vm).1 = .ok t ∧
      vm.methodReady c 22 t ∧ vm.classReady c 19 toy ∧ vm.fieldReady c 15 c f0 ∧ f0.isStatic = false ∧ f0.slot = 0 := by
  obtain ⟨dk', k, ok, tk, file, cf, object, iface, toy, lay, methods, target, found, hd', hk, hfile, hcf, hobj, -, hok, hlay, hms, ht, htk, hg, -, hrec, -, -, -, hitf, hpool, hmeth, hfields, -, hres, -⟩ := Jvm.Lambda.isMade_spec h
  cases hd.symm.trans hd'
  rw [hname, xfi_8] at hcf
  cases hcf
  rw [hO object ok hobj hok, xli_8] at hlay
  cases hlay
  obtain ⟨b, hb, hsame⟩ := hmeth 1 xfw_8 (xse_8 methods hms)
  simp only [Jvm.Lambda.sameMethod, Bool.and_eq_true, decide_eq_true_eq] at hsame
  obtain ⟨⟨hn, -, hsig, hfl⟩, hcode⟩ := hsame
  have fc := xfc_8
  have ff := xff_8
  simp only [Prod.mk.injEq] at ff
  obtain ⟨g0, hg0, hp0⟩ := Option.map_eq_some_iff.mp xeF_8_0.2.2.2
  simp only [Prod.mk.injEq] at hp0
  cases hfc : xfw_8.code with
  | none => rw [hfc] at fc; cases fc
  | some x =>
    cases hbc : b.code with
    | none => simp [hfc, hbc] at hcode
    | some y =>
      simp only [hfc, hbc, Bool.and_eq_true, decide_eq_true_eq] at hcode
      simp only [hfc, Option.map_some, Option.some.injEq, Prod.mk.injEq] at fc
      refine ⟨k, tk, file, b, y, toy, target, g0, hk, by rw [hrec.1, hname]; rfl, hfile, hpool.2.1, by simp [Vm.method?, hk, hb], hbc, ?_, by rw [← hcode.1.1.1.1.2.1]; exact fc.2, ?_, by rw [← hfl]; exact ff.1, by rw [← hsig]; exact ff.2.2, ht, htk, hitf, hg,
        ⟨k, hk, hres 22 _ (Jvm.Lambda.resolvedOf_method xeM_8.1 xeM_8.2.1 ht htk xeM_8.2.2 hg)⟩, ⟨k, hk, hres 19 _ (Jvm.Lambda.resolvedOf_class xeC_8.1 xeC_8.2.2 xeC_8.2.1 ht)⟩, ⟨k, 0, k, hk, hres 15 _ (Jvm.Lambda.resolvedOf_field xeF_8_0.1 xeF_8_0.2.1 xeF_8_0.2.2.1), hk, hfields 0 _ hg0⟩, hp0.1, hp0.2⟩
      · rw [← hcode.1.1.1.1.2.2]
        exact ByteArray.ext fc.1
      · simp [Method.locks, Method.isSynchronized, ← hfl, ff.1, hasFlag, Acc.synchronized]
