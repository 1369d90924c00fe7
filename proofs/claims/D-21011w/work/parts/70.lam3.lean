/-! LAMBDAS: a call of a made class's method -/
theorem xSteps.weaken {tb : Tables} {e : Env} {mid below : List Frame} {a b : State} (h : Steps tb e (mid ++ below) a b) : Steps tb e below a b := by
  obtain ⟨n, hn, w⟩ := h
  exact ⟨n, hn, fun k hk => (w k hk).weaken⟩
section LAMC
variable {p : Program} {l : Launch} {e : Env} {R : Room} {s : State} {m : MethodId} {args : Array Value} {below : List Frame} {meth : Method} {c : Code} {s0 : State} {D : va_G} {Q : State → Prop} {cells slots : Nat} {g : xG} {own : String} {cc : ByteArray} {pc q : Nat} {lv : xL} {st : List Value}
theorem x_callL (hC : xC p l s0 s D m args meth c own cc) {idx cnt a ml : Nat} {x : MethodName} {sh : Jvm.Lambda.Shape} {cK : ClassId} {by0 : ByteArray} {rt : FieldType} {rm : Room} {As rest : List Value} {post : Option Value → xG → Prop}
    (hl : Cond.methodLink own idx x ∈ lw_all) (hde : Cond.declares x ∈ lw_tbl) (hif : Cond.interfaceMethod x.cls x.cls x.name x.desc ∈ lw_tbl) (hx : x = ⟨sh.iface, sh.name, sh.sam.toString⟩)
    (hxn : x.cls ≠ "java/lang/invoke/MethodHandle" ∧ x.cls ≠ "java/lang/invoke/VarHandle") (hpar : (parseMethodDescriptor x.desc).map (fun d => d.parameters.length) = some As.length)
    (hmd : ∃ d, Jvm.Lambda.isMade { classPath := fun _ => none } s0.vm d sh cK = true) (hcan : s0.lambdaCallable sh cK = true)
    (hfacts : ∀ vm' : Vm, s0.WarmedH vm' → ∃ (k : Class) (methk : Method) (ck : Code), vm'.classes[cK]? = some k ∧ k.name = "KilnBench$$Lambda" ∧ vm'.method? ⟨cK, 1⟩ = some methk ∧ methk.code = some ck ∧ ck.code = by0 ∧ ck.maxLocals = ml ∧ methk.locks = false ∧ methk.accessFlags = 0x0001 ∧ methk.sig.returnType = some rt)
    (hobj : ∀ H, xI s0 D g H → ∃ cell : Cell, H[a]? = some cell ∧ cell.cls = cK ∧ cell.vm = .none)
    (d : decode cc pc = .ok (.invokeinterface idx cnt, 5)) (hq : pc + 5 = q) (hst : st = As.reverse ++ .ref a :: rest) (hrest : (rest.map fun v => v.category).sum ≤ 8) (hlen : Nat.ble (lg_sl (.ref a :: As)).length ml = true)
    (hin : ∀ (s' : State) (below' : List Frame) (methk : Method) (ck : Code), s.WarmedH s'.vm → s0.heap.size ≤ s'.heap.size → ck.code = by0 → methk.locks = false → methk.sig.returnType = some rt → XW p l e rm s' ⟨cK, 1⟩ (Value.ref a :: As).toArray below' methk ck s0 D (MQ below' (xQ s0 D post) (Value.ref a :: As).toArray s' rm.cells rm.slots (fun q => s0.heap.size ≤ q)) 0 0 g 0 (xpad ml (xarg (.ref a :: As))) [])
    (hR : rm.frames + 1 ≤ R.frames ∧ 8 + (ml + 11) + rm.locals ≤ R.locals) (hcs : cells + rm.cells ≤ R.cells ∧ slots + rm.slots ≤ R.slots)
    (k : ∀ (v : Option Value) (g' : xG), post v g' → XW p l e R s m args below meth c s0 D Q (cells + rm.cells) (slots + rm.slots) g' q lv (v.toList ++ rest)) : XW p l e R s m args below meth c s0 D Q cells slots g pc lv st := by
  refine x_run5 (a := (Value.ref a :: As).toArray) (fun H locs ls hm hI hlv => ?_) hq k
  intro T hT X
  have hA := hC.warm.alike
  obtain ⟨b0, hb0⟩ := hC.ht0
  obtain ⟨cell, hcell, hccls, hcvm⟩ := hobj H hI
  obtain ⟨r0, r, hn0, hrm0, hstR, hsigR⟩ := Cond.declares_spec (hb0 _ hde)
  obtain ⟨cL, kL, r1, hcL0, hkL0, hiL, hfoundL0, hn1⟩ := Cond.interfaceMethod_spec (hb0 _ hif)
  have er : r1 = r0 := Option.some.inj (hn1.symm.trans hn0)
  subst er
  have hr0cls : r1.cls = cL := Option.some.inj ((findClass_of_methodNamed hn0).symm.trans hcL0)
  obtain ⟨hnameR, hdescR⟩ := name_of_methodNamed hn0 hrm0
  obtain ⟨d0, hmade⟩ := hmd
  obtain ⟨dk', kK, ok, tk, file, cf, object, iface', toy, lay, methods, target, found, -, hkK, -, -, -, hi', -, -, -, -, -, -, hfound', -, -, -, -, -, -, -, -, -, -, hsel⟩ := Jvm.Lambda.isMade_spec hmade
  obtain ⟨i2, hi2, hasg, hway⟩ := State.lambdaCallable_spec hcan
  have hcLi : s0.vm.findClass sh.iface = some cL := by rw [hx] at hcL0; exact hcL0
  have e1 : iface' = cL := Option.some.inj (hi'.symm.trans hcLi)
  have e2 : i2 = cL := Option.some.inj (hi2.symm.trans hcLi)
  subst e1; subst e2
  have hfr : found = r1 := by
    have h1 : s0.methodFound? sh.iface sh.name sh.sam.toString = some r1 := by
      have := hfoundL0
      rw [hx] at this
      exact this
    simp only [State.methodFound?, hcLi, hkL0, hiL, Option.bind_eq_bind, Option.bind_some] at h1
    rw [hfound'] at h1
    exact Option.some.inj h1
  subst hfr
  have hn : s.methodNamed? x = some found := by
    have := State.methodNamed?_setVm (s := s0) hA x
    rw [hn0] at this
    exact this
  have hrm : s.vm.method? found = some r := by rw [hA.method?]; exact hrm0
  obtain ⟨kL', hkL', heL⟩ := hA.2.2 _ _ hkL0
  obtain ⟨kK', hkK', heK⟩ := hA.2.2 _ _ hkK
  obtain ⟨kf, methk0, ck0, f1, f2, f3, f4, f5, f6, f7, f8, f9⟩ := hfacts s.vm hC.warm
  have hlenA : As.length = r.sig.parameters.length := by
    rw [hsigR] at hpar
    exact (Option.some.inj hpar).symm
  have hgs : (F0 m pc ls st).stack = As.reverse ++ .ref a :: rest := hst
  obtain ⟨vm₁, X₁, hstep₁⟩ := X.invokeinterface hC.1 hC.2.2.1 (hC.hts _ hl) hn hrm hstR (by rw [hr0cls]; exact hkL') (by rw [heL]; exact hiL) hxn (a := a) (cell := cell) (kcell := kK') (by rw [hT]; exact hcell) (fun z h => by rw [hcvm] at h; cases h) (by rw [hccls]; exact hkK') (by rw [hccls, hA.assignable, hr0cls]; exact hasg)
    (m' := ⟨cK, 1⟩) (meth' := methk0) (by rw [hccls, Launch.admits_selectMethod X.admits, hA.selectMethod]; exact hsel) f3 (by rw [hnameR, hdescR, hx]; (try rw [hccls]); simp only [hA.superclasses, hA.declaredIn]; exact hway) (by rw [f8]; decide) (by simp [Method.isAbstract, f8, hasFlag, Acc.abstract])
    (g := F0 m pc ls st) rfl (argsL := As) (rest := rest) hlenA hgs (by rw [hC.2.1]; exact d)
  have hW₁ : s.WarmedH vm₁ := X₁.warmed
  obtain ⟨kf1, methk, ck, p1, p2, p3, p4, p5, p6, p7, p8, p9⟩ := hfacts vm₁ (State.WarmedH.trans (s := s0) (t := s) hC.warm hW₁)
  have hpk : (T.setVm vm₁).plainMethod ⟨cK, 1⟩ := State.plainMethod.of_name (fun k' hk' => by
    have e := Option.some.inj (p1.symm.trans hk')
    rw [← e, p2]; decide)
  have hdg : decode c.code (F0 m pc ls rest).pc = .ok (.invokeinterface idx cnt, 5) := by rw [hC.2.1]; exact d
  have hrm8 : 2 * (F0 m pc ls rest).monitorRoom + (rest.map fun v => v.category).sum ≤ 8 := lv_room hrest
  obtain ⟨Y₀, hin0⟩ := X₁.into (g := F0 m pc ls rest) rfl (hlv.1.trans hm.symm) hdg (Value.ref a :: As).toArray (R' := rm) p3 p4 p7 hpk hR.1 (by show 2 * (F0 m pc ls rest).monitorRoom + (rest.map fun v => v.category).sum + (ck.maxLocals + 11) + rm.locals ≤ R.locals; rw [p6]; have := hR.2; omega) hcs.1 hcs.2
  have hXW := hin ((T.setVm vm₁).calling (F0 m pc ls rest) ⟨cK, 1⟩ (Value.ref a :: As).toArray) (.java (F0 m pc ls rest) :: below) methk ck hW₁ (by show s0.heap.size ≤ T.heap.size; rw [hT]; exact hI.1) p5 p7 p9
  have hle := lv_entry (.ref a :: As) (n := ml) (Nat.le_of_ble_eq_true hlen)
  have hW0 := hXW H [] _ (by rw [p6, xpad_len]) hI ⟨(by show T.heap.size ≤ H.size; rw [hT]; exact Nat.le_refl _), fun q _ _ => (by show H[q]? = T.heap[q]?; rw [hT]), fun _ h => by cases h⟩ (xlv.of hle (xpad_len _ _).symm fun i v hv => by
    have := xarg_mem (.ref a :: As) i 0 v (xpad_get _ _ _ _ hv)
    simpa using this)
  rw [← lg_entry_eq, ← p6] at hW0
  obtain ⟨t, a1, o, hrun, hend, ⟨v, g', ho, hp, hI', hF'⟩, L, hFE, hL⟩ := hW0 _ (by show T.heap = H; exact hT) Y₀
  subst ho
  obtain ⟨T', X', hW', hsame', ht⟩ := X₁.outOf (g := F0 m pc ls rest) rfl hdg hend hFE.2.1 hFE.2.2
  refine ⟨v, (T.setVm vm₁).calling (F0 m pc ls rest) ⟨cK, 1⟩ (Value.ref a :: As).toArray, t, T', L, hT, X', hL, by rw [ht]; rfl, by rw [ht]; rfl, ⟨v, g', rfl, hp, hI', hF'⟩, fun tg h => hstep₁ _ fun acts => ?_⟩
  have a2 := xSteps.weaken (mid := [.java (F0 m pc ls rest)]) (below := below) a1
  rw [ht] at a2
  have h3 := hin0 acts
  exact (by rw [h3]; exact a2.trans h)
end LAMC
