/-! LAMBDAS: the sites that capture nothing, as objects that may be called -/
theorem xlw_1 : siteWord_1_1 ∈ flatC (Jvm.Cond.and given_1 narrow_1) := by decide +kernel
set_option maxRecDepth 100000 in
theorem xl_lamb_1 {l : Launch} {s0 : State} {D : va_G} (h0 : x0 l s0 D) {rm : Room} {g : xG} {a b : Nat} {nn : xN} {fs : List Value} {post : Option Value → xG → Prop} (ha : xlC s0 yX2_has 94 353 xsh_1 a) (hk : g nn = some (b, .inr (5, fs)))
    (hM : xMet l s0 D yX2_lambda_has_0 cX2_lambda_has_0 1 (some .boolean) rm [.ref b] g post) (hpi : ∀ v g1, post v g1 → ∃ x : Int32, v = some (.int x)) (hpn : ∀ x g1, post (some (.int x)) g1 → x = 0 ∨ x = 1) : xLamb l s0 D xsh_1 xby_1 2 .boolean (xr (rm.frames + 1) rm.cells rm.slots (8 + (1 + 11) + rm.locals)) a [.ref b] g post := by
  obtain ⟨cK, one, dd, dk, hat, hdk, hdn, hmade, hcan⟩ := xl_made h0 xlw_1
  have hfa : (∀ o ok, s0.vm.findClass "java/lang/Object" = some o → s0.vm.classes[o]? = some ok → ok.instanceTypes.size = 0) → ∀ vm' : Vm, s0.WarmedH vm' → ∃ dk' : Class, vm'.classes[dd]? = some dk' ∧ dk'.name = "KilnBench" ∧ Jvm.Lambda.isMade { classPath := fun _ => none } vm' dd xsh_1 cK = true ∧ ∀ o ok, vm'.findClass "java/lang/Object" = some o → vm'.classes[o]? = some ok → ok.instanceTypes.size = 0 := fun hO vm' hW => by
    obtain ⟨dk', hdk', hde⟩ := hW.alike.2.2 _ _ hdk
    exact ⟨dk', hdk', by rw [hde]; exact hdn, Jvm.Lambda.isMade_warmer hW hmade, xl_obj0 hW hO⟩
  refine ⟨cK, ⟨dd, hmade⟩, hcan, fun hO vm' hW => ?_, fun H hI => ?_, ?_⟩
  · obtain ⟨dk', w1, w2, w3, w4⟩ := hfa hO vm' hW
    obtain ⟨k, tk, file, mk1, ck1, toy, t, e1, e2, e3, e4, e5, e6, e7, e8, e9, e10, e11, e12, e13, e14, e15, e16, e17, e18⟩ := xmf_1 w1 w2 w3 w4
    exact ⟨k, mk1, ck1, e1, e2, e5, e6, e7, e8, e9, e10, e11⟩
  · obtain ⟨cK', cell, ha1, ha2, ha3, ha4⟩ := ha
    have he : cK' = cK := (Prod.mk.inj (Option.some.inj (ha1.symm.trans hat))).1
    exact ⟨cell, (hI.2.1 a (Array.getElem?_eq_some_iff.mp ha2).1).trans ha2, ha3.trans he, ha4⟩
  · intro p e s m args meth c own cc hC s' below' methk ck hW hsz hb hlk hrt
    have hfw : ∀ T : State, s'.WarmedH T.vm → s0.WarmedH T.vm := fun T hT => State.WarmedH.trans (s := s0) (t := s) hC.warm (State.WarmedH.trans (s := s) (t := s') hW hT)
    refine xl_aload (q := 1) hC.1 hb (k0 := 1) (a := b) (by decide +kernel) rfl rfl ?_
    refine xl_cast (q := 4) hC hb hW (index := 14) (nn := nn) hk (fun T hT x hx => by
      obtain ⟨dk1, w1, w2, w3, w4⟩ := hfa hC.obj00 T.vm (hfw T hT)
      obtain ⟨k, tk, file, mk1, ck1, toy, t, e1, e2, e3, e4, e5, e6, e7, e8, e9, e10, e11, e12, e13, e14, e15, e16, e17, e18⟩ := xmf_1 w1 w2 w3 w4
      exact e18 x hx) (by decide +kernel) rfl ?_
    refine xl_callS (q := 7) hC hb hW (y := yX2_lambda_has_0) (idx := 20) (As := [.ref b]) (rest := []) (fun T hT => by
      obtain ⟨dk1, w1, w2, w3, w4⟩ := hfa hC.obj00 T.vm (hfw T hT)
      obtain ⟨k, tk, file, mk1, ck1, toy, t, e1, e2, e3, e4, e5, e6, e7, e8, e9, e10, e11, e12, e13, e14, e15, e16, e17, e18⟩ := xmf_1 w1 w2 w3 w4
      exact ⟨k, tk, file, toy, t, e1, e3, by rw [e4]; exact xeM_1.1, by rw [e4]; exact xeM_1.2.2, e12, e13, e15, e16, e17⟩) ⟨by decide +kernel, by decide +kernel⟩ (lw_meth q1378) q79 q1378 q1377 (show (parseMethodDescriptor yX2_lambda_has_0.desc).map (fun d => d.parameters.length) = some 1 by decide +kernel) hM (by decide +kernel) rfl rfl (by decide) ⟨Nat.le_refl _, Nat.le_refl _⟩ ⟨by dsimp only [xr]; omega, by dsimp only [xr]; omega⟩ (fun v g1 hp => ?_)
    obtain ⟨x, rfl⟩ := hpi v g1 hp
    exact xl_zret hC.1 hb hlk hrt (by rcases hpn x g1 hp with h | h <;> subst h <;> rfl) (by decide +kernel) (by dsimp only [xr]; omega) (by dsimp only [xr]; omega) hp
theorem xlw_2 : siteWord_1_2 ∈ flatC (Jvm.Cond.and given_1 narrow_1) := by decide +kernel
set_option maxRecDepth 100000 in
theorem xl_lamb_2 {l : Launch} {s0 : State} {D : va_G} (h0 : x0 l s0 D) {rm : Room} {g : xG} {a b : Nat} {nn : xN} {fs : List Value} {post : Option Value → xG → Prop} (ha : xlC s0 yX2_has 110 360 xsh_2 a) (hk : g nn = some (b, .inr (5, fs)))
    (hM : xMet l s0 D yX2_lambda_has_1 cX2_lambda_has_1 1 (some .boolean) rm [.ref b] g post) (hpi : ∀ v g1, post v g1 → ∃ x : Int32, v = some (.int x)) (hpn : ∀ x g1, post (some (.int x)) g1 → x = 0 ∨ x = 1) : xLamb l s0 D xsh_2 xby_2 2 .boolean (xr (rm.frames + 1) rm.cells rm.slots (8 + (1 + 11) + rm.locals)) a [.ref b] g post := by
  obtain ⟨cK, one, dd, dk, hat, hdk, hdn, hmade, hcan⟩ := xl_made h0 xlw_2
  have hfa : (∀ o ok, s0.vm.findClass "java/lang/Object" = some o → s0.vm.classes[o]? = some ok → ok.instanceTypes.size = 0) → ∀ vm' : Vm, s0.WarmedH vm' → ∃ dk' : Class, vm'.classes[dd]? = some dk' ∧ dk'.name = "KilnBench" ∧ Jvm.Lambda.isMade { classPath := fun _ => none } vm' dd xsh_2 cK = true ∧ ∀ o ok, vm'.findClass "java/lang/Object" = some o → vm'.classes[o]? = some ok → ok.instanceTypes.size = 0 := fun hO vm' hW => by
    obtain ⟨dk', hdk', hde⟩ := hW.alike.2.2 _ _ hdk
    exact ⟨dk', hdk', by rw [hde]; exact hdn, Jvm.Lambda.isMade_warmer hW hmade, xl_obj0 hW hO⟩
  refine ⟨cK, ⟨dd, hmade⟩, hcan, fun hO vm' hW => ?_, fun H hI => ?_, ?_⟩
  · obtain ⟨dk', w1, w2, w3, w4⟩ := hfa hO vm' hW
    obtain ⟨k, tk, file, mk1, ck1, toy, t, e1, e2, e3, e4, e5, e6, e7, e8, e9, e10, e11, e12, e13, e14, e15, e16, e17, e18⟩ := xmf_2 w1 w2 w3 w4
    exact ⟨k, mk1, ck1, e1, e2, e5, e6, e7, e8, e9, e10, e11⟩
  · obtain ⟨cK', cell, ha1, ha2, ha3, ha4⟩ := ha
    have he : cK' = cK := (Prod.mk.inj (Option.some.inj (ha1.symm.trans hat))).1
    exact ⟨cell, (hI.2.1 a (Array.getElem?_eq_some_iff.mp ha2).1).trans ha2, ha3.trans he, ha4⟩
  · intro p e s m args meth c own cc hC s' below' methk ck hW hsz hb hlk hrt
    have hfw : ∀ T : State, s'.WarmedH T.vm → s0.WarmedH T.vm := fun T hT => State.WarmedH.trans (s := s0) (t := s) hC.warm (State.WarmedH.trans (s := s) (t := s') hW hT)
    refine xl_aload (q := 1) hC.1 hb (k0 := 1) (a := b) (by decide +kernel) rfl rfl ?_
    refine xl_cast (q := 4) hC hb hW (index := 14) (nn := nn) hk (fun T hT x hx => by
      obtain ⟨dk1, w1, w2, w3, w4⟩ := hfa hC.obj00 T.vm (hfw T hT)
      obtain ⟨k, tk, file, mk1, ck1, toy, t, e1, e2, e3, e4, e5, e6, e7, e8, e9, e10, e11, e12, e13, e14, e15, e16, e17, e18⟩ := xmf_2 w1 w2 w3 w4
      exact e18 x hx) (by decide +kernel) rfl ?_
    refine xl_callS (q := 7) hC hb hW (y := yX2_lambda_has_1) (idx := 20) (As := [.ref b]) (rest := []) (fun T hT => by
      obtain ⟨dk1, w1, w2, w3, w4⟩ := hfa hC.obj00 T.vm (hfw T hT)
      obtain ⟨k, tk, file, mk1, ck1, toy, t, e1, e2, e3, e4, e5, e6, e7, e8, e9, e10, e11, e12, e13, e14, e15, e16, e17, e18⟩ := xmf_2 w1 w2 w3 w4
      exact ⟨k, tk, file, toy, t, e1, e3, by rw [e4]; exact xeM_2.1, by rw [e4]; exact xeM_2.2.2, e12, e13, e15, e16, e17⟩) ⟨by decide +kernel, by decide +kernel⟩ (lw_meth q1387) q79 q1387 q1386 (show (parseMethodDescriptor yX2_lambda_has_1.desc).map (fun d => d.parameters.length) = some 1 by decide +kernel) hM (by decide +kernel) rfl rfl (by decide) ⟨Nat.le_refl _, Nat.le_refl _⟩ ⟨by dsimp only [xr]; omega, by dsimp only [xr]; omega⟩ (fun v g1 hp => ?_)
    obtain ⟨x, rfl⟩ := hpi v g1 hp
    exact xl_zret hC.1 hb hlk hrt (by rcases hpn x g1 hp with h | h <;> subst h <;> rfl) (by decide +kernel) (by dsimp only [xr]; omega) (by dsimp only [xr]; omega) hp
theorem xlw_3 : siteWord_1_3 ∈ flatC (Jvm.Cond.and given_1 narrow_1) := by decide +kernel
set_option maxRecDepth 100000 in
theorem xl_lamb_3 {l : Launch} {s0 : State} {D : va_G} (h0 : x0 l s0 D) {rm : Room} {g : xG} {a b : Nat} {nn : xN} {fs : List Value} {post : Option Value → xG → Prop} (ha : xlC s0 yX2_has 126 361 xsh_3 a) (hk : g nn = some (b, .inr (5, fs)))
    (hM : xMet l s0 D yX2_lambda_has_2 cX2_lambda_has_2 1 (some .boolean) rm [.ref b] g post) (hpi : ∀ v g1, post v g1 → ∃ x : Int32, v = some (.int x)) (hpn : ∀ x g1, post (some (.int x)) g1 → x = 0 ∨ x = 1) : xLamb l s0 D xsh_3 xby_3 2 .boolean (xr (rm.frames + 1) rm.cells rm.slots (8 + (1 + 11) + rm.locals)) a [.ref b] g post := by
  obtain ⟨cK, one, dd, dk, hat, hdk, hdn, hmade, hcan⟩ := xl_made h0 xlw_3
  have hfa : (∀ o ok, s0.vm.findClass "java/lang/Object" = some o → s0.vm.classes[o]? = some ok → ok.instanceTypes.size = 0) → ∀ vm' : Vm, s0.WarmedH vm' → ∃ dk' : Class, vm'.classes[dd]? = some dk' ∧ dk'.name = "KilnBench" ∧ Jvm.Lambda.isMade { classPath := fun _ => none } vm' dd xsh_3 cK = true ∧ ∀ o ok, vm'.findClass "java/lang/Object" = some o → vm'.classes[o]? = some ok → ok.instanceTypes.size = 0 := fun hO vm' hW => by
    obtain ⟨dk', hdk', hde⟩ := hW.alike.2.2 _ _ hdk
    exact ⟨dk', hdk', by rw [hde]; exact hdn, Jvm.Lambda.isMade_warmer hW hmade, xl_obj0 hW hO⟩
  refine ⟨cK, ⟨dd, hmade⟩, hcan, fun hO vm' hW => ?_, fun H hI => ?_, ?_⟩
  · obtain ⟨dk', w1, w2, w3, w4⟩ := hfa hO vm' hW
    obtain ⟨k, tk, file, mk1, ck1, toy, t, e1, e2, e3, e4, e5, e6, e7, e8, e9, e10, e11, e12, e13, e14, e15, e16, e17, e18⟩ := xmf_3 w1 w2 w3 w4
    exact ⟨k, mk1, ck1, e1, e2, e5, e6, e7, e8, e9, e10, e11⟩
  · obtain ⟨cK', cell, ha1, ha2, ha3, ha4⟩ := ha
    have he : cK' = cK := (Prod.mk.inj (Option.some.inj (ha1.symm.trans hat))).1
    exact ⟨cell, (hI.2.1 a (Array.getElem?_eq_some_iff.mp ha2).1).trans ha2, ha3.trans he, ha4⟩
  · intro p e s m args meth c own cc hC s' below' methk ck hW hsz hb hlk hrt
    have hfw : ∀ T : State, s'.WarmedH T.vm → s0.WarmedH T.vm := fun T hT => State.WarmedH.trans (s := s0) (t := s) hC.warm (State.WarmedH.trans (s := s) (t := s') hW hT)
    refine xl_aload (q := 1) hC.1 hb (k0 := 1) (a := b) (by decide +kernel) rfl rfl ?_
    refine xl_cast (q := 4) hC hb hW (index := 14) (nn := nn) hk (fun T hT x hx => by
      obtain ⟨dk1, w1, w2, w3, w4⟩ := hfa hC.obj00 T.vm (hfw T hT)
      obtain ⟨k, tk, file, mk1, ck1, toy, t, e1, e2, e3, e4, e5, e6, e7, e8, e9, e10, e11, e12, e13, e14, e15, e16, e17, e18⟩ := xmf_3 w1 w2 w3 w4
      exact e18 x hx) (by decide +kernel) rfl ?_
    refine xl_callS (q := 7) hC hb hW (y := yX2_lambda_has_2) (idx := 20) (As := [.ref b]) (rest := []) (fun T hT => by
      obtain ⟨dk1, w1, w2, w3, w4⟩ := hfa hC.obj00 T.vm (hfw T hT)
      obtain ⟨k, tk, file, mk1, ck1, toy, t, e1, e2, e3, e4, e5, e6, e7, e8, e9, e10, e11, e12, e13, e14, e15, e16, e17, e18⟩ := xmf_3 w1 w2 w3 w4
      exact ⟨k, tk, file, toy, t, e1, e3, by rw [e4]; exact xeM_3.1, by rw [e4]; exact xeM_3.2.2, e12, e13, e15, e16, e17⟩) ⟨by decide +kernel, by decide +kernel⟩ (lw_meth q1389) q79 q1389 q1388 (show (parseMethodDescriptor yX2_lambda_has_2.desc).map (fun d => d.parameters.length) = some 1 by decide +kernel) hM (by decide +kernel) rfl rfl (by decide) ⟨Nat.le_refl _, Nat.le_refl _⟩ ⟨by dsimp only [xr]; omega, by dsimp only [xr]; omega⟩ (fun v g1 hp => ?_)
    obtain ⟨x, rfl⟩ := hpi v g1 hp
    exact xl_zret hC.1 hb hlk hrt (by rcases hpn x g1 hp with h | h <;> subst h <;> rfl) (by decide +kernel) (by dsimp only [xr]; omega) (by dsimp only [xr]; omega) hp
theorem xlw_4 : siteWord_1_4 ∈ flatC (Jvm.Cond.and given_1 narrow_1) := by decide +kernel
set_option maxRecDepth 100000 in
theorem xl_lamb_4 {l : Launch} {s0 : State} {D : va_G} (h0 : x0 l s0 D) {rm : Room} {g : xG} {a b : Nat} {nn : xN} {fs : List Value} {post : Option Value → xG → Prop} (ha : xlC s0 yX2_has 142 362 xsh_4 a) (hk : g nn = some (b, .inr (6, fs)))
    (hM : xMet l s0 D yX2_lambda_has_3 cX2_lambda_has_3 1 (some .boolean) rm [.ref b] g post) (hpi : ∀ v g1, post v g1 → ∃ x : Int32, v = some (.int x)) (hpn : ∀ x g1, post (some (.int x)) g1 → x = 0 ∨ x = 1) : xLamb l s0 D xsh_4 xby_4 2 .boolean (xr (rm.frames + 1) rm.cells rm.slots (8 + (1 + 11) + rm.locals)) a [.ref b] g post := by
  obtain ⟨cK, one, dd, dk, hat, hdk, hdn, hmade, hcan⟩ := xl_made h0 xlw_4
  have hfa : (∀ o ok, s0.vm.findClass "java/lang/Object" = some o → s0.vm.classes[o]? = some ok → ok.instanceTypes.size = 0) → ∀ vm' : Vm, s0.WarmedH vm' → ∃ dk' : Class, vm'.classes[dd]? = some dk' ∧ dk'.name = "KilnBench" ∧ Jvm.Lambda.isMade { classPath := fun _ => none } vm' dd xsh_4 cK = true ∧ ∀ o ok, vm'.findClass "java/lang/Object" = some o → vm'.classes[o]? = some ok → ok.instanceTypes.size = 0 := fun hO vm' hW => by
    obtain ⟨dk', hdk', hde⟩ := hW.alike.2.2 _ _ hdk
    exact ⟨dk', hdk', by rw [hde]; exact hdn, Jvm.Lambda.isMade_warmer hW hmade, xl_obj0 hW hO⟩
  refine ⟨cK, ⟨dd, hmade⟩, hcan, fun hO vm' hW => ?_, fun H hI => ?_, ?_⟩
  · obtain ⟨dk', w1, w2, w3, w4⟩ := hfa hO vm' hW
    obtain ⟨k, tk, file, mk1, ck1, toy, t, e1, e2, e3, e4, e5, e6, e7, e8, e9, e10, e11, e12, e13, e14, e15, e16, e17, e18⟩ := xmf_4 w1 w2 w3 w4
    exact ⟨k, mk1, ck1, e1, e2, e5, e6, e7, e8, e9, e10, e11⟩
  · obtain ⟨cK', cell, ha1, ha2, ha3, ha4⟩ := ha
    have he : cK' = cK := (Prod.mk.inj (Option.some.inj (ha1.symm.trans hat))).1
    exact ⟨cell, (hI.2.1 a (Array.getElem?_eq_some_iff.mp ha2).1).trans ha2, ha3.trans he, ha4⟩
  · intro p e s m args meth c own cc hC s' below' methk ck hW hsz hb hlk hrt
    have hfw : ∀ T : State, s'.WarmedH T.vm → s0.WarmedH T.vm := fun T hT => State.WarmedH.trans (s := s0) (t := s) hC.warm (State.WarmedH.trans (s := s) (t := s') hW hT)
    refine xl_aload (q := 1) hC.1 hb (k0 := 1) (a := b) (by decide +kernel) rfl rfl ?_
    refine xl_cast (q := 4) hC hb hW (index := 14) (nn := nn) hk (fun T hT x hx => by
      obtain ⟨dk1, w1, w2, w3, w4⟩ := hfa hC.obj00 T.vm (hfw T hT)
      obtain ⟨k, tk, file, mk1, ck1, toy, t, e1, e2, e3, e4, e5, e6, e7, e8, e9, e10, e11, e12, e13, e14, e15, e16, e17, e18⟩ := xmf_4 w1 w2 w3 w4
      exact e18 x hx) (by decide +kernel) rfl ?_
    refine xl_callS (q := 7) hC hb hW (y := yX2_lambda_has_3) (idx := 20) (As := [.ref b]) (rest := []) (fun T hT => by
      obtain ⟨dk1, w1, w2, w3, w4⟩ := hfa hC.obj00 T.vm (hfw T hT)
      obtain ⟨k, tk, file, mk1, ck1, toy, t, e1, e2, e3, e4, e5, e6, e7, e8, e9, e10, e11, e12, e13, e14, e15, e16, e17, e18⟩ := xmf_4 w1 w2 w3 w4
      exact ⟨k, tk, file, toy, t, e1, e3, by rw [e4]; exact xeM_4.1, by rw [e4]; exact xeM_4.2.2, e12, e13, e15, e16, e17⟩) ⟨by decide +kernel, by decide +kernel⟩ (lw_meth q1391) q79 q1391 q1390 (show (parseMethodDescriptor yX2_lambda_has_3.desc).map (fun d => d.parameters.length) = some 1 by decide +kernel) hM (by decide +kernel) rfl rfl (by decide) ⟨Nat.le_refl _, Nat.le_refl _⟩ ⟨by dsimp only [xr]; omega, by dsimp only [xr]; omega⟩ (fun v g1 hp => ?_)
    obtain ⟨x, rfl⟩ := hpi v g1 hp
    exact xl_zret hC.1 hb hlk hrt (by rcases hpn x g1 hp with h | h <;> subst h <;> rfl) (by decide +kernel) (by dsimp only [xr]; omega) (by dsimp only [xr]; omega) hp
