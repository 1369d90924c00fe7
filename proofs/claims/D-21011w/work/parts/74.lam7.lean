/-! LAMBDAS: the sites that capture -/
theorem xl_made {l : Launch} {s0 : State} {D : va_G} (h0 : x0 l s0 D) {y : MethodName} {pc index : Nat} {σ : Jvm.Lambda.Shape} (hw : Cond.lambdaSite y pc index σ ∈ flatC (Jvm.Cond.and given_1 narrow_1)) :
    ∃ (cK : ClassId) (one : Option Addr) (d : ClassId) (dk : Class), s0.lambdaAt? y pc index σ = some (cK, one) ∧ s0.vm.classes[d]? = some dk ∧ dk.name = y.cls ∧ Jvm.Lambda.isMade { classPath := fun _ => none } s0.vm d σ cK = true ∧ s0.lambdaCallable σ cK = true := by
  obtain ⟨b0, -, hb0⟩ := h0.flat
  obtain ⟨cK, one, hat⟩ := Cond.lambdaSite_spec (hb0 _ hw)
  obtain ⟨m', kS, cfS, i0, p0, lk, hm', hkS, hcfS, hsh, -, hfind, hmade, hcan, hlk⟩ := State.lambdaAt?_spec hat
  obtain ⟨kS', hkS', hnameS⟩ := className_of_methodNamed hm'
  cases hkS.symm.trans hkS'
  exact ⟨cK, one, m'.cls, kS, hat, hkS, hnameS, hmade, hcan⟩
theorem xl_obj {s0 : State} {D : va_G} {g : xG} {n : xN} {a ci : Nat} {vals : List Value} {cK : ClassId} (hn : Nat.ble 2000 n.1 = true) (hg : g n = some (a, .inr (ci, vals))) (hx : xls s0 ci = some cK) : ∀ H, xI s0 D g H → ∃ cell : Cell, H[a]? = some cell ∧ cell.cls = cK ∧ cell.vm = .none := by
  intro H hI
  have hn := Nat.le_of_ble_eq_true hn
  rcases hI.2.2.1 n a _ hg with q | q | q
  · have := q.1; omega
  · have := q.1.2; omega
  · obtain ⟨-, c1, h1, h⟩ := q.2.2
    cases h1.symm.trans hx
    exact ⟨_, h, rfl, rfl⟩

theorem xlw_6 : siteWord_1_6 ∈ flatC (Jvm.Cond.and given_1 narrow_1) := by decide +kernel
set_option maxRecDepth 100000 in
theorem xl_lamb_6 {l : Launch} {s0 : State} {D : va_G} (h0 : x0 l s0 D) {rm : Room} {g : xG} {n : xN} {a b : Nat} {nn : xN} {fs : List Value} {post : Option Value → xG → Prop} (hn : Nat.ble 2000 n.1 = true) (hg : g n = some (a, .inr (106, [.ref b]))) (hk : g nn = some (b, .inr (1, fs)))
    (hM : xMet l s0 D yX2_lambda_fuel_5 cX2_lambda_fuel_5 1 (some .int) rm [.ref b] g post) (hpi : ∀ v g1, post v g1 → ∃ x : Int32, v = some (.int x)) : xLamb l s0 D xsh_6 xby_6 1 .int (xr (rm.frames + 1) rm.cells rm.slots (8 + (1 + 11) + rm.locals)) a [] g post := by
  obtain ⟨cK, one, dd, dk, hat, hdk, hdn, hmade, hcan⟩ := xl_made h0 xlw_6
  have hfa : (∀ o ok, s0.vm.findClass "java/lang/Object" = some o → s0.vm.classes[o]? = some ok → ok.instanceTypes.size = 0) → ∀ vm' : Vm, s0.WarmedH vm' → ∃ dk' : Class, vm'.classes[dd]? = some dk' ∧ dk'.name = "KilnBench" ∧ Jvm.Lambda.isMade { classPath := fun _ => none } vm' dd xsh_6 cK = true ∧ ∀ o ok, vm'.findClass "java/lang/Object" = some o → vm'.classes[o]? = some ok → ok.instanceTypes.size = 0 := fun hO vm' hW => by
    obtain ⟨dk', hdk', hde⟩ := hW.alike.2.2 _ _ hdk
    exact ⟨dk', hdk', by rw [hde]; exact hdn, Jvm.Lambda.isMade_warmer hW hmade, xl_obj0 hW hO⟩
  refine ⟨cK, ⟨dd, hmade⟩, hcan, fun hO vm' hW => ?_, xl_obj hn hg (by show (s0.lambdaAt? _ _ _ _).map (·.1) = some cK; rw [hat]; rfl), ?_⟩
  · obtain ⟨dk', w1, w2, w3, w4⟩ := hfa hO vm' hW
    obtain ⟨k, tk, file, mk1, ck1, toy, t, f0, e1, e2, e3, e4, e5, e6, e7, e8, e9, e10, e11, e12, e13, e14, e15, e16, e17, u01, u02, u03⟩ := xmf_6 w1 w2 w3 w4
    exact ⟨k, mk1, ck1, e1, e2, e5, e6, e7, e8, e9, e10, e11⟩
  · intro p e s m args meth c own cc hC s' below' methk ck hW hsz hb hlk hrt
    have hfw : ∀ T : State, s'.WarmedH T.vm → s0.WarmedH T.vm := fun T hT => State.WarmedH.trans (s := s0) (t := s) hC.warm (State.WarmedH.trans (s := s) (t := s') hW hT)
    refine xl_aload (q := 1) hC.1 hb (k0 := 0) (a := a) (by decide +kernel) rfl rfl ?_
    refine xl_get (q := 4) hC.1 hb (index := 15) (j := 0) (n := n) (fun T hT => by
      obtain ⟨dk1, w1, w2, w3, w4⟩ := hfa hC.obj00 T.vm (hfw T hT)
      obtain ⟨k, tk, file, mk1, ck1, toy, t, f0, e1, e2, e3, e4, e5, e6, e7, e8, e9, e10, e11, e12, e13, e14, e15, e16, e17, u01, u02, u03⟩ := xmf_6 w1 w2 w3 w4
      exact ⟨f0, u01, u02, u03⟩) hn hg rfl (by decide +kernel) rfl ?_
    refine xl_callV (q := 7) hC hb hW (y := yX2_lambda_fuel_5) (idx := 22) (As := []) (rest := []) (nn := nn) (fun T hT => by
      obtain ⟨dk1, w1, w2, w3, w4⟩ := hfa hC.obj00 T.vm (hfw T hT)
      obtain ⟨k, tk, file, mk1, ck1, toy, t, f0, e1, e2, e3, e4, e5, e6, e7, e8, e9, e10, e11, e12, e13, e14, e15, e16, e17, u01, u02, u03⟩ := xmf_6 w1 w2 w3 w4
      exact ⟨k, tk, file, toy, t, e1, e3, by rw [e4]; exact xeM_6.1, e12, e13, e14, e15, e16, e17⟩) ⟨by decide +kernel, by decide +kernel⟩ (lw_meth q1616) q79 q1616 q1615 qs53 (show (parseMethodDescriptor yX2_lambda_fuel_5.desc).map (fun d => d.parameters.length) = some 0 by decide +kernel) hM hk rfl (by decide +kernel) rfl rfl (by decide) ⟨Nat.le_refl _, Nat.le_refl _⟩ ⟨by dsimp only [xr]; omega, by dsimp only [xr]; omega⟩ (fun v g1 hp => ?_)
    obtain ⟨x, rfl⟩ := hpi v g1 hp
    exact xl_zret hC.1 hb hlk hrt rfl (by decide +kernel) (by dsimp only [xr]; omega) (by dsimp only [xr]; omega) hp
theorem xlw_7 : siteWord_1_7 ∈ flatC (Jvm.Cond.and given_1 narrow_1) := by decide +kernel
set_option maxRecDepth 100000 in
theorem xl_lamb_7 {l : Launch} {s0 : State} {D : va_G} (h0 : x0 l s0 D) {rm : Room} {g : xG} {n : xN} {a b : Nat} {post : Option Value → xG → Prop} (hn : Nat.ble 2000 n.1 = true) (hg : g n = some (a, .inr (107, [.ref b])))
    (hM : xMet l s0 D yX2_lambda_later_6 cX2_lambda_later_6 1 (some .int) rm [.ref b] g post) (hpi : ∀ v g1, post v g1 → ∃ x : Int32, v = some (.int x)) : xLamb l s0 D xsh_7 xby_7 1 .int (xr (rm.frames + 1) rm.cells rm.slots (8 + (1 + 11) + rm.locals)) a [] g post := by
  obtain ⟨cK, one, dd, dk, hat, hdk, hdn, hmade, hcan⟩ := xl_made h0 xlw_7
  have hfa : (∀ o ok, s0.vm.findClass "java/lang/Object" = some o → s0.vm.classes[o]? = some ok → ok.instanceTypes.size = 0) → ∀ vm' : Vm, s0.WarmedH vm' → ∃ dk' : Class, vm'.classes[dd]? = some dk' ∧ dk'.name = "KilnBench" ∧ Jvm.Lambda.isMade { classPath := fun _ => none } vm' dd xsh_7 cK = true ∧ ∀ o ok, vm'.findClass "java/lang/Object" = some o → vm'.classes[o]? = some ok → ok.instanceTypes.size = 0 := fun hO vm' hW => by
    obtain ⟨dk', hdk', hde⟩ := hW.alike.2.2 _ _ hdk
    exact ⟨dk', hdk', by rw [hde]; exact hdn, Jvm.Lambda.isMade_warmer hW hmade, xl_obj0 hW hO⟩
  refine ⟨cK, ⟨dd, hmade⟩, hcan, fun hO vm' hW => ?_, xl_obj hn hg (by show (s0.lambdaAt? _ _ _ _).map (·.1) = some cK; rw [hat]; rfl), ?_⟩
  · obtain ⟨dk', w1, w2, w3, w4⟩ := hfa hO vm' hW
    obtain ⟨k, tk, file, mk1, ck1, toy, t, f0, e1, e2, e3, e4, e5, e6, e7, e8, e9, e10, e11, e12, e13, e14, e15, e16, e17, u01, u02, u03⟩ := xmf_7 w1 w2 w3 w4
    exact ⟨k, mk1, ck1, e1, e2, e5, e6, e7, e8, e9, e10, e11⟩
  · intro p e s m args meth c own cc hC s' below' methk ck hW hsz hb hlk hrt
    have hfw : ∀ T : State, s'.WarmedH T.vm → s0.WarmedH T.vm := fun T hT => State.WarmedH.trans (s := s0) (t := s) hC.warm (State.WarmedH.trans (s := s) (t := s') hW hT)
    refine xl_aload (q := 1) hC.1 hb (k0 := 0) (a := a) (by decide +kernel) rfl rfl ?_
    refine xl_get (q := 4) hC.1 hb (index := 15) (j := 0) (n := n) (fun T hT => by
      obtain ⟨dk1, w1, w2, w3, w4⟩ := hfa hC.obj00 T.vm (hfw T hT)
      obtain ⟨k, tk, file, mk1, ck1, toy, t, f0, e1, e2, e3, e4, e5, e6, e7, e8, e9, e10, e11, e12, e13, e14, e15, e16, e17, u01, u02, u03⟩ := xmf_7 w1 w2 w3 w4
      exact ⟨f0, u01, u02, u03⟩) hn hg rfl (by decide +kernel) rfl ?_
    refine xl_callS (q := 7) hC hb hW (y := yX2_lambda_later_6) (idx := 23) (As := [.ref b]) (rest := []) (fun T hT => by
      obtain ⟨dk1, w1, w2, w3, w4⟩ := hfa hC.obj00 T.vm (hfw T hT)
      obtain ⟨k, tk, file, mk1, ck1, toy, t, f0, e1, e2, e3, e4, e5, e6, e7, e8, e9, e10, e11, e12, e13, e14, e15, e16, e17, u01, u02, u03⟩ := xmf_7 w1 w2 w3 w4
      exact ⟨k, tk, file, toy, t, e1, e3, by rw [e4]; exact xeM_7.1, by rw [e4]; exact xeM_7.2.2, e12, e13, e15, e16, e17⟩) ⟨by decide +kernel, by decide +kernel⟩ (lw_meth q1780) q79 q1780 q1779 (show (parseMethodDescriptor yX2_lambda_later_6.desc).map (fun d => d.parameters.length) = some 1 by decide +kernel) hM (by decide +kernel) rfl rfl (by decide) ⟨Nat.le_refl _, Nat.le_refl _⟩ ⟨by dsimp only [xr]; omega, by dsimp only [xr]; omega⟩ (fun v g1 hp => ?_)
    obtain ⟨x, rfl⟩ := hpi v g1 hp
    exact xl_zret hC.1 hb hlk hrt rfl (by decide +kernel) (by dsimp only [xr]; omega) (by dsimp only [xr]; omega) hp
theorem xlw_8 : siteWord_1_8 ∈ flatC (Jvm.Cond.and given_1 narrow_1) := by decide +kernel
set_option maxRecDepth 100000 in
theorem xl_lamb_8 {l : Launch} {s0 : State} {D : va_G} (h0 : x0 l s0 D) {rm : Room} {g : xG} {n : xN} {a b : Nat} {x0 : Int32} {nn : xN} {fs : List Value} {post : Option Value → xG → Prop} (hn : Nat.ble 2000 n.1 = true) (hg : g n = some (a, .inr (108, [.ref b]))) (hk : g nn = some (b, .inr (1, fs)))
    (hM : xMet l s0 D yX2_lambda_seen_7 cX2_lambda_seen_7 2 (some .boolean) rm [.ref b, .int x0] g post) (hpi : ∀ v g1, post v g1 → ∃ x : Int32, v = some (.int x)) (hpn : ∀ x g1, post (some (.int x)) g1 → x = 0 ∨ x = 1) : xLamb l s0 D xsh_8 xby_8 2 .boolean (xr (rm.frames + 1) rm.cells rm.slots (8 + (2 + 11) + rm.locals)) a [.int x0] g post := by
  obtain ⟨cK, one, dd, dk, hat, hdk, hdn, hmade, hcan⟩ := xl_made h0 xlw_8
  have hfa : (∀ o ok, s0.vm.findClass "java/lang/Object" = some o → s0.vm.classes[o]? = some ok → ok.instanceTypes.size = 0) → ∀ vm' : Vm, s0.WarmedH vm' → ∃ dk' : Class, vm'.classes[dd]? = some dk' ∧ dk'.name = "KilnBench" ∧ Jvm.Lambda.isMade { classPath := fun _ => none } vm' dd xsh_8 cK = true ∧ ∀ o ok, vm'.findClass "java/lang/Object" = some o → vm'.classes[o]? = some ok → ok.instanceTypes.size = 0 := fun hO vm' hW => by
    obtain ⟨dk', hdk', hde⟩ := hW.alike.2.2 _ _ hdk
    exact ⟨dk', hdk', by rw [hde]; exact hdn, Jvm.Lambda.isMade_warmer hW hmade, xl_obj0 hW hO⟩
  refine ⟨cK, ⟨dd, hmade⟩, hcan, fun hO vm' hW => ?_, xl_obj hn hg (by show (s0.lambdaAt? _ _ _ _).map (·.1) = some cK; rw [hat]; rfl), ?_⟩
  · obtain ⟨dk', w1, w2, w3, w4⟩ := hfa hO vm' hW
    obtain ⟨k, tk, file, mk1, ck1, toy, t, f0, e1, e2, e3, e4, e5, e6, e7, e8, e9, e10, e11, e12, e13, e14, e15, e16, e17, u01, u02, u03⟩ := xmf_8 w1 w2 w3 w4
    exact ⟨k, mk1, ck1, e1, e2, e5, e6, e7, e8, e9, e10, e11⟩
  · intro p e s m args meth c own cc hC s' below' methk ck hW hsz hb hlk hrt
    have hfw : ∀ T : State, s'.WarmedH T.vm → s0.WarmedH T.vm := fun T hT => State.WarmedH.trans (s := s0) (t := s) hC.warm (State.WarmedH.trans (s := s) (t := s') hW hT)
    refine xl_aload (q := 1) hC.1 hb (k0 := 0) (a := a) (by decide +kernel) rfl rfl ?_
    refine xl_get (q := 4) hC.1 hb (index := 15) (j := 0) (n := n) (fun T hT => by
      obtain ⟨dk1, w1, w2, w3, w4⟩ := hfa hC.obj00 T.vm (hfw T hT)
      obtain ⟨k, tk, file, mk1, ck1, toy, t, f0, e1, e2, e3, e4, e5, e6, e7, e8, e9, e10, e11, e12, e13, e14, e15, e16, e17, u01, u02, u03⟩ := xmf_8 w1 w2 w3 w4
      exact ⟨f0, u01, u02, u03⟩) hn hg rfl (by decide +kernel) rfl ?_
    refine xl_iload (q := 5) hC.1 hb (k0 := 1) (x := x0) (by decide +kernel) rfl rfl ?_
    refine xl_callV (q := 8) hC hb hW (y := yX2_lambda_seen_7) (idx := 22) (As := [.int x0]) (rest := []) (nn := nn) (fun T hT => by
      obtain ⟨dk1, w1, w2, w3, w4⟩ := hfa hC.obj00 T.vm (hfw T hT)
      obtain ⟨k, tk, file, mk1, ck1, toy, t, f0, e1, e2, e3, e4, e5, e6, e7, e8, e9, e10, e11, e12, e13, e14, e15, e16, e17, u01, u02, u03⟩ := xmf_8 w1 w2 w3 w4
      exact ⟨k, tk, file, toy, t, e1, e3, by rw [e4]; exact xeM_8.1, e12, e13, e14, e15, e16, e17⟩) ⟨by decide +kernel, by decide +kernel⟩ (lw_meth q2091) q79 q2091 q2090 qs66 (show (parseMethodDescriptor yX2_lambda_seen_7.desc).map (fun d => d.parameters.length) = some 1 by decide +kernel) hM hk rfl (by decide +kernel) rfl rfl (by decide) ⟨Nat.le_refl _, Nat.le_refl _⟩ ⟨by dsimp only [xr]; omega, by dsimp only [xr]; omega⟩ (fun v g1 hp => ?_)
    obtain ⟨x, rfl⟩ := hpi v g1 hp
    exact xl_zret hC.1 hb hlk hrt (by rcases hpn x g1 hp with h | h <;> subst h <;> rfl) (by decide +kernel) (by dsimp only [xr]; omega) (by dsimp only [xr]; omega) hp
theorem xlw_5 : siteWord_1_5 ∈ flatC (Jvm.Cond.and given_1 narrow_1) := by decide +kernel
set_option maxRecDepth 100000 in
theorem xl_lamb_5 {l : Launch} {s0 : State} {D : va_G} (h0 : x0 l s0 D) {rm : Room} {g : xG} {n : xN} {a b : Nat} {b1 : Nat} {c2 c3 c4 : Int32} {x0 : Int32} {nn : xN} {fs : List Value} {post : Option Value → xG → Prop} (hn : Nat.ble 2000 n.1 = true) (hg : g n = some (a, .inr (105, [.ref b, .ref b1, .int c2, .int c3, .int c4]))) (hk : g nn = some (b, .inr (1, fs)))
    (hM : xMet l s0 D yX2_lambda_heats_4 cX2_lambda_heats_4 6 (some .boolean) rm [.ref b, .ref b1, .int c2, .int c3, .int c4, .int x0] g post) (hpi : ∀ v g1, post v g1 → ∃ x : Int32, v = some (.int x)) (hpn : ∀ x g1, post (some (.int x)) g1 → x = 0 ∨ x = 1) : xLamb l s0 D xsh_5 xby_5 2 .boolean (xr (rm.frames + 1) rm.cells rm.slots (8 + (6 + 11) + rm.locals)) a [.int x0] g post := by
  obtain ⟨cK, one, dd, dk, hat, hdk, hdn, hmade, hcan⟩ := xl_made h0 xlw_5
  have hfa : (∀ o ok, s0.vm.findClass "java/lang/Object" = some o → s0.vm.classes[o]? = some ok → ok.instanceTypes.size = 0) → ∀ vm' : Vm, s0.WarmedH vm' → ∃ dk' : Class, vm'.classes[dd]? = some dk' ∧ dk'.name = "KilnBench" ∧ Jvm.Lambda.isMade { classPath := fun _ => none } vm' dd xsh_5 cK = true ∧ ∀ o ok, vm'.findClass "java/lang/Object" = some o → vm'.classes[o]? = some ok → ok.instanceTypes.size = 0 := fun hO vm' hW => by
    obtain ⟨dk', hdk', hde⟩ := hW.alike.2.2 _ _ hdk
    exact ⟨dk', hdk', by rw [hde]; exact hdn, Jvm.Lambda.isMade_warmer hW hmade, xl_obj0 hW hO⟩
  refine ⟨cK, ⟨dd, hmade⟩, hcan, fun hO vm' hW => ?_, xl_obj hn hg (by show (s0.lambdaAt? _ _ _ _).map (·.1) = some cK; rw [hat]; rfl), ?_⟩
  · obtain ⟨dk', w1, w2, w3, w4⟩ := hfa hO vm' hW
    obtain ⟨k, tk, file, mk1, ck1, toy, t, f0, f1, f2, f3, f4, e1, e2, e3, e4, e5, e6, e7, e8, e9, e10, e11, e12, e13, e14, e15, e16, e17, u01, u02, u03, u11, u12, u13, u21, u22, u23, u31, u32, u33, u41, u42, u43⟩ := xmf_5 w1 w2 w3 w4
    exact ⟨k, mk1, ck1, e1, e2, e5, e6, e7, e8, e9, e10, e11⟩
  · intro p e s m args meth c own cc hC s' below' methk ck hW hsz hb hlk hrt
    have hfw : ∀ T : State, s'.WarmedH T.vm → s0.WarmedH T.vm := fun T hT => State.WarmedH.trans (s := s0) (t := s) hC.warm (State.WarmedH.trans (s := s) (t := s') hW hT)
    refine xl_aload (q := 1) hC.1 hb (k0 := 0) (a := a) (by decide +kernel) rfl rfl ?_
    refine xl_get (q := 4) hC.1 hb (index := 21) (j := 0) (n := n) (fun T hT => by
      obtain ⟨dk1, w1, w2, w3, w4⟩ := hfa hC.obj00 T.vm (hfw T hT)
      obtain ⟨k, tk, file, mk1, ck1, toy, t, f0, f1, f2, f3, f4, e1, e2, e3, e4, e5, e6, e7, e8, e9, e10, e11, e12, e13, e14, e15, e16, e17, u01, u02, u03, u11, u12, u13, u21, u22, u23, u31, u32, u33, u41, u42, u43⟩ := xmf_5 w1 w2 w3 w4
      exact ⟨f0, u01, u02, u03⟩) hn hg rfl (by decide +kernel) rfl ?_
    refine xl_aload (q := 5) hC.1 hb (k0 := 0) (a := a) (by decide +kernel) rfl rfl ?_
    refine xl_get (q := 8) hC.1 hb (index := 23) (j := 1) (n := n) (fun T hT => by
      obtain ⟨dk1, w1, w2, w3, w4⟩ := hfa hC.obj00 T.vm (hfw T hT)
      obtain ⟨k, tk, file, mk1, ck1, toy, t, f0, f1, f2, f3, f4, e1, e2, e3, e4, e5, e6, e7, e8, e9, e10, e11, e12, e13, e14, e15, e16, e17, u01, u02, u03, u11, u12, u13, u21, u22, u23, u31, u32, u33, u41, u42, u43⟩ := xmf_5 w1 w2 w3 w4
      exact ⟨f1, u11, u12, u13⟩) hn hg rfl (by decide +kernel) rfl ?_
    refine xl_aload (q := 9) hC.1 hb (k0 := 0) (a := a) (by decide +kernel) rfl rfl ?_
    refine xl_get (q := 12) hC.1 hb (index := 25) (j := 2) (n := n) (fun T hT => by
      obtain ⟨dk1, w1, w2, w3, w4⟩ := hfa hC.obj00 T.vm (hfw T hT)
      obtain ⟨k, tk, file, mk1, ck1, toy, t, f0, f1, f2, f3, f4, e1, e2, e3, e4, e5, e6, e7, e8, e9, e10, e11, e12, e13, e14, e15, e16, e17, u01, u02, u03, u11, u12, u13, u21, u22, u23, u31, u32, u33, u41, u42, u43⟩ := xmf_5 w1 w2 w3 w4
      exact ⟨f2, u21, u22, u23⟩) hn hg rfl (by decide +kernel) rfl ?_
    refine xl_aload (q := 13) hC.1 hb (k0 := 0) (a := a) (by decide +kernel) rfl rfl ?_
    refine xl_get (q := 16) hC.1 hb (index := 27) (j := 3) (n := n) (fun T hT => by
      obtain ⟨dk1, w1, w2, w3, w4⟩ := hfa hC.obj00 T.vm (hfw T hT)
      obtain ⟨k, tk, file, mk1, ck1, toy, t, f0, f1, f2, f3, f4, e1, e2, e3, e4, e5, e6, e7, e8, e9, e10, e11, e12, e13, e14, e15, e16, e17, u01, u02, u03, u11, u12, u13, u21, u22, u23, u31, u32, u33, u41, u42, u43⟩ := xmf_5 w1 w2 w3 w4
      exact ⟨f3, u31, u32, u33⟩) hn hg rfl (by decide +kernel) rfl ?_
    refine xl_aload (q := 17) hC.1 hb (k0 := 0) (a := a) (by decide +kernel) rfl rfl ?_
    refine xl_get (q := 20) hC.1 hb (index := 29) (j := 4) (n := n) (fun T hT => by
      obtain ⟨dk1, w1, w2, w3, w4⟩ := hfa hC.obj00 T.vm (hfw T hT)
      obtain ⟨k, tk, file, mk1, ck1, toy, t, f0, f1, f2, f3, f4, e1, e2, e3, e4, e5, e6, e7, e8, e9, e10, e11, e12, e13, e14, e15, e16, e17, u01, u02, u03, u11, u12, u13, u21, u22, u23, u31, u32, u33, u41, u42, u43⟩ := xmf_5 w1 w2 w3 w4
      exact ⟨f4, u41, u42, u43⟩) hn hg rfl (by decide +kernel) rfl ?_
    refine xl_iload (q := 21) hC.1 hb (k0 := 1) (x := x0) (by decide +kernel) rfl rfl ?_
    refine xl_callV (q := 24) hC hb hW (y := yX2_lambda_heats_4) (idx := 37) (As := [.ref b1, .int c2, .int c3, .int c4, .int x0]) (rest := []) (nn := nn) (fun T hT => by
      obtain ⟨dk1, w1, w2, w3, w4⟩ := hfa hC.obj00 T.vm (hfw T hT)
      obtain ⟨k, tk, file, mk1, ck1, toy, t, f0, f1, f2, f3, f4, e1, e2, e3, e4, e5, e6, e7, e8, e9, e10, e11, e12, e13, e14, e15, e16, e17, u01, u02, u03, u11, u12, u13, u21, u22, u23, u31, u32, u33, u41, u42, u43⟩ := xmf_5 w1 w2 w3 w4
      exact ⟨k, tk, file, toy, t, e1, e3, by rw [e4]; exact xeM_5.1, e12, e13, e14, e15, e16, e17⟩) ⟨by decide +kernel, by decide +kernel⟩ (lw_meth q1585) q79 q1585 q1584 qs52 (show (parseMethodDescriptor yX2_lambda_heats_4.desc).map (fun d => d.parameters.length) = some 5 by decide +kernel) hM hk rfl (by decide +kernel) rfl rfl (by decide) ⟨Nat.le_refl _, Nat.le_refl _⟩ ⟨by dsimp only [xr]; omega, by dsimp only [xr]; omega⟩ (fun v g1 hp => ?_)
    obtain ⟨x, rfl⟩ := hpi v g1 hp
    exact xl_zret hC.1 hb hlk hrt (by rcases hpn x g1 hp with h | h <;> subst h <;> rfl) (by decide +kernel) (by dsimp only [xr]; omega) (by dsimp only [xr]; omega) hp
