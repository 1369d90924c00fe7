/-! a method with a table of its own, called by a name (out of EXCEPTIONS.to-paste) -/
section VXH
variable {p : Program} {l : Launch} {e : Env} {R : Room} {s : State} {m : MethodId} {args : Array Value} {below : List Frame} {meth : Method} {c : Code} {T : State} {H : Heap} {locs : List Loc} {cells slots : Nat}
theorem vx_callVW (X : Stand p l e R s m args below meth c T locs cells slots) (hexec : p.tables.exec = Jvm.exec) {own C : String} {index : Nat} {y : MethodName} {bytes : ByteArray} {maxL : Nat} {ret : Option FieldType} {hh : List (Nat × Nat × Nat × Nat)}
    (hown : s.vm.findClass own = some m.cls) (hlink : (Cond.methodLink own index y).before args s = true) (hinst : (Cond.instanceMethod y).before args s = true) (hsel : (Cond.selects C y y).before args s = true)
    (hcode : (Cond.codeWith y bytes maxL ret hh).before args s = true) (hy : y.cls ≠ "java/lang/invoke/MethodHandle" ∧ y.cls ≠ "java/lang/invoke/VarHandle")
    {W9 : Nat} {Pre : Pt → Array Value → Prop} {Post : Pt → Array Value → Option Value → Pt → Prop} (hK : Back l R p e below s args y 3 W9 Pre Post)
    {b : Addr} {cellB : Cell} (hcell : T.heap[b]? = some cellB) (hobj : cellB.vm.isStatics = false) (hcls : s.vm.findClass C = some cellB.cls)
    {g : JFrame} (hg : g.method = m) (hsize : g.locals.size = c.maxLocals) {argsL rest : List Value} (hlen : ∀ sig, parseMethodDescriptor y.desc = some sig → argsL.length = sig.parameters.length)
    (hstack : g.stack = argsL.reverse ++ .ref b :: rest) (hW : 2 * g.monitorRoom + (rest.map fun v => v.category).sum ≤ W9) (hdg : decode c.code g.pc = .ok (.invokevirtual index, 3))
    (hpre : ∀ vm₁, s.WarmedH vm₁ → Pre ⟨T.setVm vm₁, locs, cells, slots⟩ (Value.ref b :: argsL).toArray) :
    ∃ (v : Option Value) (vm₁ : Vm) (B : Pt), s.WarmedH vm₁ ∧ Stand p l e R s m args below meth c B.U B.locs B.cells B.slots ∧ Post ⟨T.setVm vm₁, locs, cells, slots⟩ (Value.ref b :: argsL).toArray v B ∧
      ∀ target, Steps p.tables e below (B.U.setTop { g with pc := g.pc + 3, stack := v.toList ++ rest }) target → Steps p.tables e below (T.setTop g) target := by
  obtain ⟨mk, methM, hnamed, hmethM, hstM, habM⟩ := Cond.instanceMethod_spec hinst
  obtain ⟨m8, methM', cM, hn8, hmethM', -, -, -, -, -, -, hsigM⟩ := Cond.codeWith_spec hcode
  cases Option.some.inj (hn8.symm.trans hnamed)
  cases hmethM.symm.trans hmethM'
  obtain ⟨c2, r2, m2, q1, q2, q3, q4, kP, hkP, hkPi⟩ := Cond.selects_spec hsel
  cases hcls.symm.trans q1
  cases (State.methodFound?_of_named hnamed hy).symm.trans q2
  cases hnamed.symm.trans q3
  have hselP : selectMethod e.platform s.vm cellB.cls mk = .method mk := by rw [Launch.admits_selectMethod X.admits]; exact q4
  obtain ⟨vm₁, X₁, hstep₁⟩ := X.invokevirtual hexec hown hlink hnamed hmethM hstM hkP hkPi hy (a := b) (cell := cellB) hcell
    (fun z h => by rw [h] at hobj; cases hobj) hselP hmethM habM hkP hkPi (g := g) hg (argsL := argsL) (rest := rest) (hlen _ hsigM) hstack hdg
  obtain ⟨v, B, X', hpost, hsteps⟩ := hK m meth c ⟨T.setVm vm₁, locs, cells, slots⟩ { g with stack := rest } (.invokevirtual index) mk (Value.ref b :: argsL).toArray X₁ hg hsize hdg hW (X₁.named hnamed) (hpre vm₁ X₁.warmed)
  exact ⟨v, vm₁, B, X₁.warmed, X', hpost, fun target h => hstep₁ _ fun acts => by rw [doInvoke_state]; exact hsteps.trans h⟩
abbrev vx_CVW (R : Room) (s : State) (args : Array Value) (own C : String) (index : Nat) (y : MethodName) (bytes : ByteArray) (maxL : Nat) (ret : Option FieldType) (hh : List (Nat × Nat × Nat × Nat)) (ws : List Cond) (rm : Room) (mc ms n : Nat) : Prop :=
  (rm.cells = mc ∧ rm.slots = ms ∧ rm.frames + 1 ≤ R.frames ∧ 8 + (maxL + 11) + rm.locals ≤ R.locals ∧ (∀ w ∈ ws, ∀ (a' : Array Value) (U : State), s.WarmedH U.vm → w.before a' U = true) ∧ Cond.codeWith y bytes maxL ret hh ∈ ws) ∧
  (Cond.codeWith y bytes maxL ret hh).before args s = true ∧ (Cond.initialized y.cls).before args s = true ∧ (y.cls ≠ "java/lang/invoke/MethodHandle" ∧ y.cls ≠ "java/lang/invoke/VarHandle") ∧
  (∀ sig, parseMethodDescriptor y.desc = some sig → n = sig.parameters.length) ∧ (Cond.methodLink own index y).before args s = true ∧ (Cond.instanceMethod y).before args s = true ∧ (Cond.selects C y y).before args s = true
theorem vx_cwVW {own C : String} {index maxL mc ms : Nat} {y : MethodName} {bytes : ByteArray} {ret : Option FieldType} {hh : List (Nat × Nat × Nat × Nat)} {Ts ws ws' : List Cond} {rm : Room} (n : Nat) (ht : ∀ w ∈ Ts, w.before args s = true) (hT : GoodIn Ts (wsV own index C y ws)) (hw : ws = Cond.codeWith y bytes maxL ret hh :: ws') (hrc : rm.cells = mc) (hrs : rm.slots = ms)
    (hd : y.cls = C ∧ y.cls ≠ "java/lang/invoke/MethodHandle" ∧ y.cls ≠ "java/lang/invoke/VarHandle" ∧ (parseMethodDescriptor y.desc).map (fun d => d.parameters.length) = some n) (hR : rm.frames + 1 ≤ R.frames ∧ 8 + (maxL + 11) + rm.locals ≤ R.locals) :
    vx_CVW R s args own C index y bytes maxL ret hh ws rm mc ms n := by
  obtain ⟨hC, hd⟩ := hd
  subst hC
  have ok : ∀ w ∈ wsV own index y.cls y ws, w.before args s = true := fun w h => ht w (hT w h).1
  have hG : GoodIn Ts ws := fun w h => hT w (by unfold wsV; exact List.mem_append_right _ h)
  have hc : Cond.codeWith y bytes maxL ret hh ∈ ws := by rw [hw]; exact List.mem_cons_self
  refine ⟨⟨hrc, hrs, hR.1, hR.2, pay_in ht hG, hc⟩, ht _ (hG _ hc).1, ok _ (by simp [wsV]), ⟨hd.1, hd.2.1⟩, fun sig h => ?_, ok _ (by simp [wsV]), ok _ (by simp [wsV]), ok _ (by simp [wsV])⟩
  have h2 := hd.2.2
  rw [h] at h2
  exact (Option.some.inj h2).symm
theorem vx_runVW {y : MethodName} {bytes cc : ByteArray} {maxL nL mc ms n index : Nat} {ret : Option FieldType} {hh : List (Nat × Nat × Nat × Nat)} {ws : List Cond} {rm : Room} {Pc : Array Value → State → Prop} {Qc : Array Value → State → Outcome → State → Prop} {free : Addr → Prop} {Ts : List Cond} {own C : String} {b : Addr} {As rest : List Value} {g : JFrame}
    (S : CallFix p m c cc nL s args Ts own) (hM : Met l y ws rm Pc Qc mc ms free) (cw : vx_CVW R s args own C index y bytes maxL ret hh ws rm mc ms n) (hp : PreV s H C b Pc As)
    (hg : g.method = m) (hn : As.length = n) (hsize : g.locals.size = nL) (hstack : g.stack = As.reverse ++ .ref b :: rest) (hW : 2 * g.monitorRoom + (rest.map fun v => v.category).sum ≤ 8) (hdg : decode cc g.pc = .ok (.invokevirtual index, 3)) (hf : cells + mc ≤ R.cells ∧ slots + ms ≤ R.slots) :
    va_Run p l e R s m args below meth c H locs cells slots mc ms g rest (Qc (Value.ref b :: As).toArray) free := by
  obtain ⟨⟨hrc, hrs, hfr, hlo, hws, hcw⟩, hcode, hini, hy, hlen, hl, hin, hse⟩ := cw
  have hK : Back l R p e below s args y 3 8 (PreOf R mc ms Pc) (PostOf Qc mc ms free) := va_backW (hh := hh) (bytes := bytes) (maxL := maxL) (ret := ret) hM hp.1 hrc hrs hfr hlo hws hcw (fun a' U hW => word_at hW (Or.inl (by first | rfl | simp [Cond.onTables, Cond.keeps, Cond.steady])) hini)
  obtain ⟨hx, hb, hml, ho, -⟩ := S
  obtain ⟨-, ⟨cellB, hcB, hoB, hclB⟩, hPc⟩ := hp
  intro T hT X
  obtain ⟨v, vm₁, ⟨U', l2, c2, s2⟩, hW₁, X', ⟨g', mk, t, L, e1, e2, hq, h1, hL, h2, h3⟩, st⟩ := vx_callVW X hx (C := C) (hh := hh) (bytes := bytes) (maxL := maxL) (ret := ret) ho hl hin hse hcode hy hK (by rw [hT]; exact hcB) hoB hclB hg (hsize.trans hml.symm) (argsL := As) (rest := rest) (fun sig h => hn.trans (hlen sig h)) hstack hW (by rw [hb]; exact hdg)
    (fun vm₁ hW₁ => ⟨hf.1, hf.2, hPc (T.setVm vm₁) hT hW₁⟩)
  dsimp only [Pt.U, Pt.locs, Pt.cells, Pt.slots] at X' e1 e2 h1 h2 h3 st
  subst h1; subst h2; subst h3
  exact ⟨v, (T.setVm vm₁).calling g' mk (Value.ref b :: As).toArray, t, U', L, hT, X', hL, e1, e2, hq, st⟩
end VXH
/-! KilnBench.town -/
def xMetW (l : Launch) (s0 : State) (D : va_G) (y : MethodName) (b : ByteArray) (L : Nat) (r : Option FieldType) (hh : List (Nat × Nat × Nat × Nat)) (rm : Room) (av : List Value) (g : xG) (post : Option Value → xG → Prop) : Prop :=
  Met l y (wsW_ y b L r hh) rm (xPc s0 D g av) (xQ s0 D post) rm.cells rm.slots (fun q => s0.heap.size ≤ q)
theorem xMetW.of {l : Launch} {s0 : State} {D : va_G} {y : MethodName} {b : ByteArray} {L : Nat} {r : Option FieldType} {hh : List (Nat × Nat × Nat × Nat)} {rm : Room} {av : List Value} {g : xG} {post : Option Value → xG → Prop} (h0 : x0 l s0 D) (hy : plainFor y = true) (hlen : Nat.ble (lg_sl av).length L = true)
    (body : ∀ (p : Program) (e : Env) (s : State) (m : MethodId) (args : Array Value) (below : List Frame) (meth : Method) (c : Code), xC p l s0 s D m args meth c y.cls b → meth.sig.returnType = r → meth.name = y.name →
      XW p l e rm s m args below meth c s0 D (MQ below (xQ s0 D post) args s rm.cells rm.slots (fun q => s0.heap.size ≤ q)) 0 0 g 0 (xpad L (xarg av)) []) : xMetW l s0 D y b L r hh rm av g post := by
  unfold xMetW
  refine MetFree.of_bodySF (code := b) (maxLocals := L) (ret := r) hy ?_ ?_
  · intro args s m h hn
    obtain ⟨m9, meth, c, hn9, h1, h2, h3, h4, -, h5, h6, -⟩ := Cond.codeWith_spec (atoms_spec (ws := wsW_ y b L r hh) h _ List.mem_cons_self)
    cases hn.symm.trans hn9
    exact ⟨meth, c, h1, h2, h3, h4, h5, h6⟩
  · intro p e s m args below meth c s₁ B hml hP _
    obtain ⟨rfl, hW, hI⟩ := hP
    have hh0 : s₁.heap = s.heap := by rw [B.state]; rfl
    have hts := atoms_spec (ws := wsW_ y b L r hh) B.pre
    have hts : ∀ w ∈ lw_all, w.before _ s = true := fun w h => hts w (List.mem_cons_of_mem _ h)
    have hl := lv_entry av (n := L) (Nat.le_of_ble_eq_true hlen)
    have key : W p l e rm s m av.toArray below meth c s.heap [] 0 0 (MQ below (xQ s0 D post) av.toArray s rm.cells rm.slots (fun q => s0.heap.size ≤ q)) (entryFrame m av.toArray L) := by
      rw [lg_entry_eq]
      refine body p e s m _ below meth c ⟨B.exec, B.bytes, findClass_of_methodNamed B.named, hts, B.notSynchronized, hW, h0, hI.1⟩ B.returns (name_of_methodNamed B.named B.method).1 s.heap [] _ (by rw [hml, xpad_len]) hI ⟨Nat.le_refl _, fun _ _ _ => rfl, fun _ h => by cases h⟩ (xlv.of hl (xpad_len _ _).symm fun i v hv => ?_)
      have := xarg_mem av i 0 v (xpad_get _ _ _ _ hv)
      simpa using this
    obtain ⟨t, a1, o, b1, b2, b3⟩ := key s₁ hh0 (Stand.of_body B)
    exact ⟨t, o, a1, b1, b2, ⟨b3.1, b3.2⟩⟩
section XKW
variable {p : Program} {l : Launch} {e : Env} {R : Room} {s : State} {m : MethodId} {args : Array Value} {below : List Frame} {meth : Method} {c : Code} {s0 : State} {D : va_G} {Q : State → Prop} {cells slots : Nat} {g : xG} {own : String} {cc : ByteArray} {pc q : Nat} {lv : xL} {st : List Value}
def xVW (own : String) (idx : Nat) (C : String) (y : MethodName) (b : ByteArray) (L : Nat) (r : Option FieldType) (hh : List (Nat × Nat × Nat × Nat)) (n : Nat) : Prop := GoodIn lw_all (wsV own idx C y (wsW_ y b L r hh)) ∧ (y.cls = C ∧ y.cls ≠ "java/lang/invoke/MethodHandle" ∧ y.cls ≠ "java/lang/invoke/VarHandle" ∧ (parseMethodDescriptor y.desc).map (fun d => d.parameters.length) = some n)
theorem x_callVW (hC : xC p l s0 s D m args meth c own cc) {idx n L a : Nat} {C : String} {y : MethodName} {b : ByteArray} {r : Option FieldType} {hh : List (Nat × Nat × Nat × Nat)} {rm : Room} {As rest : List Value} {nn : xN} {ci : Nat} {fs : List Value} {post : Option Value → xG → Prop} (hv : xVW own idx C y b L r hh n) (d : decode cc pc = .ok (.invokevirtual idx, 3)) (hq : pc + 3 = q) (hst : st = As.reverse ++ .ref a :: rest) (hM : xMetW l s0 D y b L r hh rm (.ref a :: As) g post) (hg : g nn = some (a, .inr (ci, fs))) (hx : xnm (.inr (ci, fs)) = C) (hn : As.length = n) (hrest : (rest.map fun v => v.category).sum ≤ 8) (hR : rm.frames + 1 ≤ R.frames ∧ 8 + (L + 11) + rm.locals ≤ R.locals) (hcs : cells + rm.cells ≤ R.cells ∧ slots + rm.slots ≤ R.slots)
    (k : ∀ (v : Option Value) (g' : xG), post v g' → XW p l e R s m args below meth c s0 D Q (cells + rm.cells) (slots + rm.slots) g' q lv (v.toList ++ rest)) (hok : Nat.blt ci 24 = true := by rfl) : XW p l e R s m args below meth c s0 D Q cells slots g pc lv st := by
  refine x_run (a := (Value.ref a :: As).toArray) (fun H locs ls hm hI hl => ?_) hq k
  exact vx_runVW (hC.fix hm) hM (vx_cwVW n hC.hts hv.1 rfl rfl rfl hv.2 hR) (xpreV hC hI hg hx As hok) rfl hn hl.1 hst (lv_room hrest) d hcs
end XKW
/-- the kinds that a read town's names are known by -/
def kRo (k : Nat) : Nat := match k with
  | 3 => 70 | 4 => 71 | 5 => 72 | 6 => 73 | 7 => 74 | 20 => 75 | 21 => 78 | 22 => 79
  | 70 => 3 | 71 => 4 | 72 => 5 | 73 => 6 | 74 => 7 | 75 => 20 | 78 => 21 | 79 => 22 | k => k
def kRoB (k : Nat) : Bool := Nat.ble 3 k && Nat.ble k 7 || (Nat.ble 20 k && Nat.ble k 22 || (Nat.ble 70 k && Nat.ble k 75 || Nat.ble 78 k && Nat.ble k 79))
theorem kRo_o {k : Nat} (h : kRoB k = false) : kRo k = k := by
  unfold kRo
  split <;> first | rfl | exact absurd h (by decide)
theorem kRo_lt (k : Nat) (h : k < 80) : kRo k < 80 ∧ kRo (kRo k) = k := by
  have : ∀ k, k < 80 → kRo k < 80 ∧ kRo (kRo k) = k := by decide +kernel
  exact this k h
theorem kRo_big {k : Nat} (h : 80 ≤ k) : kRo k = k := kRo_o (by
  unfold kRoB
  have e : ∀ {a b : Nat}, b < k → (Nat.ble a k && Nat.ble k b) = false := fun q => by
    rw [Bool.and_eq_false_iff]
    exact Or.inr (Bool.eq_false_iff.mpr (fun r => by have := Nat.le_of_ble_eq_true r; omega))
  rw [e (by omega), e (by omega), e (by omega), e (by omega)]; rfl)
theorem kRo_inv (k : Nat) : kRo (kRo k) = k := by
  rcases Nat.lt_or_ge k 80 with h | h
  · exact (kRo_lt k h).2
  · rw [kRo_big h, kRo_big h]
theorem kRo_1000 {k : Nat} (h : k < 1000) : kRo k < 1000 := by
  rcases Nat.lt_or_ge k 80 with q | q
  · have := (kRo_lt k q).1; omega
  · rw [kRo_big q]; exact h
/-- the state behind a reading: the town τ, its addresses -/
def kTw (σ : KS) (τ : tS) (ht la da lk dk : Nat) (mc mk : Int) (fo : Nat → Option Nat) (ca ka pa sa sb : Nat → Nat) : KS := (fun f k => match f with
  | 0 => 0 | 1 => 0 | 2 => -1 | 3 => 0 | 7 => tfu τ | 8 => tlo τ | 9 => twi τ | 10 => tst τ | 16 => kI σ 16 0 + 1 | 17 => kI σ 17 0 + 1 | 18 => kI σ 18 0 + 1 | 19 => mc | 20 => mk | 31 => tcl τ k | 32 => tgr τ k | 33 => -1 | 34 => -1 | 35 => 0 | 36 => 0 | 41 => -1 | f => kI σ f k,
  fun f k => match f with
  | 3 => ht | 4 => la | 5 => da | 6 => lk | 7 => dk | 20 => ca k | 21 => ka k | 22 => pa k | 23 => sa k | 24 => sb k | 25 => trm τ k | 61 => tnc τ | 62 => tnk τ | 71 => if tnc τ = 0 then 0 else 10 | 72 => if tnk τ = 0 then 0 else 10 | f => kA σ f k,
  fun f k j => match f with
  | 0 => none | 1 => none | 2 => fo k | f => kO σ f k j, kV σ, fun f j => kL σ f j)
/-- the frame behind a reading -/
def gTw (g : xG) : xG := fun n => if 60 ≤ n.1 ∧ n.1 ≤ 62 ∨ 70 ≤ n.1 ∧ n.1 ≤ 81 then none else g n
/-- nothing was told, nothing kept, no town read yet -/
def KEm (σ : KS) (d0 : Nat) : Prop := (∀ s, 60 ≤ s → s ≤ 65 → kA σ s 0 = 0) ∧ (∀ s, 71 ≤ s → s ≤ 75 → kA σ s 0 = 0) ∧ (kA σ 11 0 = d0 ∧ kA σ 14 0 = d0 ∧ kA σ 17 0 = d0)
/-- the town has been read -/
def KTown (σ σ1 : KS) (gF gF1 : xG) (d0 : Nat) (τ : tS) (F : Nat → Option (aEnv → Int64)) : Prop := ∃ ht la da lk dk mc mk fo ca ka pa sa sb, σ1 = kTw σ τ ht la da lk dk mc mk fo ca ka pa sa sb ∧ (tnc τ = 0 → da = d0) ∧ (tnk τ = 0 → dk = d0) ∧ (∀ j, j < 4 → (fo j = none ∧ F j = none) ∨ ∃ a fn, fo j = some a ∧ F j = some fn ∧ aR gF1 6 (Nat.ble 2 j) a fn) ∧ tnc τ ≤ 6 ∧ tnk τ ≤ 3 ∧ (∀ n : xN, 40 ≤ n.1 → n.1 ≠ 200 → rdP n = false → gF1 n = gF n) ∧ (∀ n : xN, 60 ≤ n.1 ∧ n.1 ≤ 62 ∨ 70 ≤ n.1 ∧ n.1 ≤ 81 → gF1 n = none)

/-- the cells behind a reading, by their names ahead of it -/
theorem kTw_cells {σ : KS} {gF g4 g6 : xG} {d0 : Nat} {τ : tS} {ht la da lk dk : Nat} {mc mk : Int32} {fo : Nat → Option Nat} {ca ka pa sa sb : Nat → Nat} (hEm : KEm σ d0) (hT5 : tnc τ ≤ 6) (hT6 : tnk τ ≤ 3) (k6 : g6 (0, 0) = some (kA σ 0 0, xO 1 [.ref (kA σ 1 0), .int 0, .ref (kA σ 2 0), .ref ht, .int 0, .int (-1), .int 0, .ref (kA σ 10 0), .ref (kA σ 13 0), .ref (kA σ 8 0), .int (iI (kI σ 4 0)), .int (iI (kI σ 5 0)), .ref (kA σ 16 0), .long (kL σ 1 0), .ref (kA σ 18 0), .int (iI (kI σ 6 0))]))
    (e10 : g6 (10, 0) = some (kA σ 10 0, xO 21 [.int (iI (kI σ 16 0) + 1), .ref (kA σ 11 0), .int 0])) (e13 : g6 (13, 0) = some (kA σ 13 0, xO 21 [.int (iI (kI σ 17 0) + 1), .ref (kA σ 14 0), .int 0])) (e16 : g6 (16, 0) = some (kA σ 16 0, xO 21 [.int (iI (kI σ 18 0) + 1), .ref (kA σ 17 0), .int 0]))
    (r6 : ∀ n : xN, n ≠ (0, 0) → n ≠ (10, 0) → n ≠ (13, 0) → n ≠ (16, 0) → rdP n = false → g6 n = kmix σ gF n) (f6 : ∀ n : xN, n ≠ (0, 0) → n ≠ (10, 0) → n ≠ (13, 0) → n ≠ (16, 0) → g6 n = g4 n)
    (hT0 : g4 (70, 0) = some (ht, tTown τ fo la lk)) (hl1 : g4 (71, 0) = some (la, xO 21 [.int mc, .ref da, .int (nI (tnc τ))])) (hl3 : 0 < tnc τ → g4 (72, 0) = some (da, xAr (.object "java/lang/Object") 10 (fun j => if j < tnc τ then some (ca j) else none))) (hm1 : g4 (73, 0) = some (lk, xO 21 [.int mk, .ref dk, .int (nI (tnk τ))])) (hm3 : 0 < tnk τ → g4 (74, 0) = some (dk, xAr (.object "java/lang/Object") 10 (fun j => if j < tnk τ then some (ka j) else none)))
    (hsa : ∀ c, c < tnc τ → g4 (75, c) = some (ca c, xO 5 [.ref (sa c), .int (nI c), .int (nI (tcl τ c)), .int (nI (tgr τ c)), .int (-1), .int (-1), .int 0, .null, .int 0])) (hsb : ∀ c, c < tnk τ → g4 (78, c) = some (ka c, xO 6 [.ref (sb c), .int (nI c), .int (nI (trm τ c)), .int (-1), .ref (pa c)]) ∧ g4 (79, c) = some (pa c, xAr (.object "KilnBench$Child") 6 (fun _ => none)))
    (k i : Nat) (x : Nat × xE) (hk : Nat.blt k 40 = true) (hx : kenc (kTw σ τ ht la da lk dk mc.toInt mk.toInt fo ca ka pa sa sb) k i = some x) : g6 (kRo k, i) = some x := by
  have hk' : k < 40 := Nat.le_of_ble_eq_true hk
  have same : ∀ k i, kRoB k = false → Nat.blt k 40 = true → (k, i) ≠ ((0, 0) : xN) → (k, i) ≠ ((10, 0) : xN) → (k, i) ≠ ((13, 0) : xN) → (k, i) ≠ ((16, 0) : xN) → kenc σ k i = some x → g6 (kRo k, i) = some x := fun k i a b q0 q1 q2 q3 q => by
    rw [kRo_o a, r6 (k, i) q0 q1 q2 q3 (by
      have hb := Nat.le_of_ble_eq_true b
      unfold rdP
      rw [tokP_big (Or.inl (by dsimp only; omega)), Bool.false_or, Bool.or_eq_false_iff, Bool.and_eq_false_iff]
      exact ⟨Or.inl (Bool.eq_false_iff.mpr (fun r => by have := Nat.le_of_ble_eq_true r; dsimp only at this; omega)), Bool.eq_false_iff.mpr (fun r => by have := Nat.eq_of_beq_eq_true r; dsimp only at this; omega)⟩), kmix_eq _ _ _ _ b]
    exact q
  exact match k, hk', hx with
  | 0, _, hx => (match i, hx with
    | 0, hx => by cases hx; exact k6
    | i + 1, hx => by cases hx)
  | 1, _, hx => same 1 i rfl rfl (n_fst rfl) (n_fst rfl) (n_fst rfl) (n_fst rfl) hx
  | 2, _, hx => same 2 i rfl rfl (n_fst rfl) (n_fst rfl) (n_fst rfl) (n_fst rfl) hx
  | 3, _, hx => (match i, hx with
    | 0, hx => by cases hx; exact (f6 (70, 0) (n_fst rfl) (n_fst rfl) (n_fst rfl) (n_fst rfl)).trans hT0
    | i + 1, hx => by cases hx)
  | 4, _, hx => (match i, hx with
    | 0, hx => by
      cases hx
      show g6 (71, 0) = some (la, xO 21 [.int (iI mc.toInt), .ref da, .int (nI (tnc τ))])
      rw [iI_self]
      exact (f6 (71, 0) (n_fst rfl) (n_fst rfl) (n_fst rfl) (n_fst rfl)).trans hl1
    | i + 1, hx => by cases hx)
  | 5, _, hx => (match i, hx with
    | 0, hx => by
      have hx : (if 0 < (if tnc τ = 0 then 0 else 10) then some (da, xAr (.object "java/lang/Object") (if tnc τ = 0 then 0 else 10) (fun j => if j < tnc τ then some (ca j) else none)) else none) = some x := hx
      by_cases h0 : tnc τ = 0
      · rw [if_pos h0] at hx; cases hx
      · rw [if_neg h0] at hx
        cases hx
        exact (f6 (72, 0) (n_fst rfl) (n_fst rfl) (n_fst rfl) (n_fst rfl)).trans (hl3 (by omega))
    | i + 1, hx => by cases hx)
  | 6, _, hx => (match i, hx with
    | 0, hx => by
      cases hx
      show g6 (73, 0) = some (lk, xO 21 [.int (iI mk.toInt), .ref dk, .int (nI (tnk τ))])
      rw [iI_self]
      exact (f6 (73, 0) (n_fst rfl) (n_fst rfl) (n_fst rfl) (n_fst rfl)).trans hm1
    | i + 1, hx => by cases hx)
  | 7, _, hx => (match i, hx with
    | 0, hx => by
      have hx : (if 0 < (if tnk τ = 0 then 0 else 10) then some (dk, xAr (.object "java/lang/Object") (if tnk τ = 0 then 0 else 10) (fun j => if j < tnk τ then some (ka j) else none)) else none) = some x := hx
      by_cases h0 : tnk τ = 0
      · rw [if_pos h0] at hx; cases hx
      · rw [if_neg h0] at hx
        cases hx
        exact (f6 (74, 0) (n_fst rfl) (n_fst rfl) (n_fst rfl) (n_fst rfl)).trans (hm3 (by omega))
    | i + 1, hx => by cases hx)
  | 8, _, hx => same 8 i rfl rfl (n_fst rfl) (n_fst rfl) (n_fst rfl) (n_fst rfl) hx
  | 9, _, hx => same 9 i rfl rfl (n_fst rfl) (n_fst rfl) (n_fst rfl) (n_fst rfl) hx
  | 10, _, hx => (match i, hx with
    | 0, hx => by
      have hx : some (kA σ 10 0, xO 21 [.int (iI (kI σ 16 0 + 1)), .ref (kA σ 11 0), .int (nI (kA σ 63 0))]) = some x := hx
      rw [hEm.1 63 (by decide) (by decide), ← iI_add] at hx
      cases hx
      exact e10
    | i + 1, hx => by cases hx)
  | 11, _, hx => (match i, hx with
    | 0, hx => by
      have hx : (if 0 < kA σ 73 0 then _ else none) = some x := hx
      rw [hEm.2.1 73 (by decide) (by decide)] at hx
      cases hx
    | i + 1, hx => by cases hx)
  | 12, _, hx => by
    have hx : (if i < kA σ 63 0 ∨ i < kA σ 60 0 then _ else none) = some x := hx
    rw [hEm.1 63 (by decide) (by decide), hEm.1 60 (by decide) (by decide), if_neg (by omega)] at hx
    cases hx
  | 13, _, hx => (match i, hx with
    | 0, hx => by
      have hx : some (kA σ 13 0, xO 21 [.int (iI (kI σ 17 0 + 1)), .ref (kA σ 14 0), .int (nI (kA σ 64 0))]) = some x := hx
      rw [hEm.1 64 (by decide) (by decide), ← iI_add] at hx
      cases hx
      exact e13
    | i + 1, hx => by cases hx)
  | 14, _, hx => (match i, hx with
    | 0, hx => by
      have hx : (if 0 < kA σ 74 0 then _ else none) = some x := hx
      rw [hEm.2.1 74 (by decide) (by decide)] at hx
      cases hx
    | i + 1, hx => by cases hx)
  | 15, _, hx => by
    have hx : (if i < kA σ 64 0 then _ else none) = some x := hx
    rw [hEm.1 64 (by decide) (by decide), if_neg (by omega)] at hx
    cases hx
  | 16, _, hx => (match i, hx with
    | 0, hx => by
      have hx : some (kA σ 16 0, xO 21 [.int (iI (kI σ 18 0 + 1)), .ref (kA σ 17 0), .int (nI (kA σ 65 0))]) = some x := hx
      rw [hEm.1 65 (by decide) (by decide), ← iI_add] at hx
      cases hx
      exact e16
    | i + 1, hx => by cases hx)
  | 17, _, hx => (match i, hx with
    | 0, hx => by
      have hx : (if 0 < kA σ 75 0 then _ else none) = some x := hx
      rw [hEm.2.1 75 (by decide) (by decide)] at hx
      cases hx
    | i + 1, hx => by cases hx)
  | 18, _, hx => same 18 i rfl rfl (n_fst rfl) (n_fst rfl) (n_fst rfl) (n_fst rfl) hx
  | 19, _, hx => by cases hx
  | 20, _, hx => by
    have hx : (if i < tnc τ then some (ca i, xO 5 [.ref (sa i), .int (nI i), .int (iI (tcl τ i : Int)), .int (iI (tgr τ i : Int)), .int (iI (-1)), .int (iI (-1)), .int (iI 0), .null, .int (iI 0)]) else none) = some x := hx
    by_cases h : i < tnc τ
    · rw [if_pos h, iI_nat, iI_nat] at hx
      cases hx
      exact (f6 (75, i) (n_fst rfl) (n_fst rfl) (n_fst rfl) (n_fst rfl)).trans (hsa i h)
    · rw [if_neg h] at hx; cases hx
  | 21, _, hx => by
    have hx : (if i < tnk τ then some (ka i, xO 6 [.ref (sb i), .int (nI i), .int (nI (trm τ i)), .int (iI (-1)), .ref (pa i)]) else none) = some x := hx
    by_cases h : i < tnk τ
    · rw [if_pos h] at hx
      cases hx
      exact (f6 (78, i) (n_fst rfl) (n_fst rfl) (n_fst rfl) (n_fst rfl)).trans (hsb i h).1
    · rw [if_neg h] at hx; cases hx
  | 22, _, hx => by
    have hx : (if i < tnk τ then some (pa i, xAr (.object "KilnBench$Child") 6 (fun _ => none)) else none) = some x := hx
    by_cases h : i < tnk τ
    · rw [if_pos h] at hx
      cases hx
      exact (f6 (79, i) (n_fst rfl) (n_fst rfl) (n_fst rfl) (n_fst rfl)).trans (hsb i h).2
    · rw [if_neg h] at hx; cases hx
  | 23, _, hx => by cases hx
  | 24, _, hx => by cases hx
  | 25, _, hx => by cases hx
  | 26, _, hx => by cases hx
  | 27, _, hx => by cases hx
  | 28, _, hx => by cases hx
  | 29, _, hx => by cases hx
  | 30, _, hx => by
    have hx : (if i < kA σ 65 0 then _ else none) = some x := hx
    rw [hEm.1 65 (by decide) (by decide), if_neg (by omega)] at hx
    cases hx
  | 31, _, hx => by
    have hx : (if i < kA σ 65 0 then _ else none) = some x := hx
    rw [hEm.1 65 (by decide) (by decide), if_neg (by omega)] at hx
    cases hx
  | 32, _, hx => by
    have hx : (if i < kA σ 65 0 then _ else none) = some x := hx
    rw [hEm.1 65 (by decide) (by decide), if_neg (by omega)] at hx
    cases hx
  | 33, _, hx => by
    have hx : (if i < kA σ 65 0 then _ else none) = some x := hx
    rw [hEm.1 65 (by decide) (by decide), if_neg (by omega)] at hx
    cases hx
  | 34, _, hx => by
    have hx : (if i < kA σ 65 0 ∧ 0 < kA σ 76 i then _ else none) = some x := hx
    rw [hEm.1 65 (by decide) (by decide), if_neg (by omega)] at hx
    cases hx
  | 35, _, hx => by cases hx
  | 36, _, hx => by cases hx
  | 37, _, hx => by cases hx
  | 38, _, hx => by cases hx
  | 39, _, hx => by cases hx
  | k + 40, h, _ => absurd h (by omega)

set_option maxHeartbeats 4000000 in
set_option maxRecDepth 100000 in
theorem m_X2_town {l : Launch} {s0 : State} {D : va_G} (h0 : x0 l s0 D) (σ : KS) (gF : xG) {d0 n : Nat} {tx : List Nat} {tk : List Tk} {A V B : Nat → Nat} {X1 : sX} (hS : KS0 s0 A V B) (hKG : KG (kmix σ gF) A V B) (hz : xE0 s0 (kmix σ gF) d0) (hEm : KEm σ d0) (hF60 : gF (60, 0) = none) (hFr : SFr (kmix σ gF)) (htp : kI σ 0 0 = tx.length) (hTp : ∀ j, j < tx.length → iI (kV σ 0 0 j) = nI (tx.getD j 0)) (hsz : tx.length ≤ 1600) (hA : sA tx) (hlex : lexes tk false tx) (hrun : sRun n (τ00, fun _ => none) tk X1) (hn : n < 80) : xMetW l s0 D yX2_town cX2_town 3 (some .int) [(18, 68, 69, 128)] (xr 65 (40 * tk.length + 20) (6000 * tk.length + 120) 2200) [.ref (kA σ 0 0)] (kmix σ gF) (fun r g1 => r = some (.int (nI (tst X1.1))) ∧ ∃ σ1 gF1, KTown σ σ1 gF gF1 d0 X1.1 X1.2 ∧ g1 = kmix σ1 gF1) := by
  refine xMetW.of h0 (by decide +kernel) rfl ?_
  intro zp ze zs zm za zb zf zc hC hr hnm
  refine x_new hC (fs := [.int 0, .null, .int 0, .int 0, .int 0, .int 0, .int 0, .int 0, .int 0, .int 0, .int 0, .int 0, .null, .null]) (60, 0) xc_4 q283 q284 q96 dX2_town_0 (q := 3) rfl rfl ((kmix_F σ gF (60, 0) rfl).trans hF60) (fun j hj => by match j, hj with | 0, _ => rfl | 1, _ => rfl | 2, _ => rfl | 3, _ => rfl | 4, _ => rfl | 5, _ => rfl | 6, _ => rfl | 7, _ => rfl | 8, _ => rfl | 9, _ => rfl | 10, _ => rfl | 11, _ => rfl | 12, _ => rfl | 13, _ => rfl | j + 14, h => exact absurd h (by omega)) (by (try dsimp only); omega) (by (try dsimp only); omega) (fun a_0 => ?_)
  have hFr1 : SFr (xu (kmix σ gF) (60, 0) (some (a_0, xO 4 [.int 0, .null, .int 0, .int 0, .int 0, .int 0, .int 0, .int 0, .int 0, .int 0, .int 0, .int 0, .null, .null]))) := ⟨(xu_ne (n_fst rfl)).trans hFr.1, fun n a b => (xu_ne (fun q => by rw [q] at a; exact absurd a (by decide))).trans (hFr.2.1 n a b), fun i => (xu_ne (n_fst rfl)).trans (hFr.2.2 i)⟩
  refine x_dup hC dX2_town_3 (q := 4) rfl rfl ?_
  refine x_aloadr_n hC dX2_town_4 (q := 5) rfl rfl ?_
  refine x_aloadr_n hC dX2_town_5 (q := 6) rfl rfl ?_
  refine x_get hC xf_X2_82_1 dX2_town_6 (q := 9) rfl (n := (0, 0)) (by rw [xu_ne (n_fst rfl)]; rfl) rfl ?_
  rw [htp, iI_nat]
  refine x_callI hC xv_X2_109 dX2_town_9 (q := 12) rfl rfl (m_X5_init h0 _ hS (hKG.up rfl _) (hz.up rfl _) (xu_eq _ _ _) hFr1 ⟨_, _, _, (xu_ne (n_fst rfl)).trans rfl, (xu_ne (n_fst rfl)).trans rfl, hTp⟩ hsz hA hlex) rfl (Nat.le_of_ble_eq_true rfl) ⟨(by (try dsimp only); omega), (by (try dsimp only); omega)⟩ ⟨(by (try dsimp only); omega), (by (try dsimp only); omega)⟩ (fun v g2 hp => ?_)
  obtain ⟨ht, rfl, hq2, hI2, hx2⟩ := hp
  have hk2 : g2 (0, 0) = some (kA σ 0 0, xO 1 [.ref (kA σ 1 0), .int (iI (kI σ 0 0)), .ref (kA σ 2 0), .ref (kA σ 3 0), .int (iI (kI σ 1 0)), .int (iI (kI σ 2 0)), .int (iI (kI σ 3 0)), .ref (kA σ 10 0), .ref (kA σ 13 0), .ref (kA σ 8 0), .int (iI (kI σ 4 0)), .int (iI (kI σ 5 0)), .ref (kA σ 16 0), .long (kL σ 1 0), .ref (kA σ 18 0), .int (iI (kI σ 6 0))]) := (hx2 _ rfl).trans ((xu_ne (n_fst rfl)).trans rfl)
  obtain ⟨ats, bds, pls, nbs, whs, sns, sgs, wds, hcs⟩ := hq2.sc
  refine x_astorer_n hC dX2_town_12 (q := 13) rfl rfl ?_
  refine x_aloadr_n hC dX2_town_13 (q := 14) rfl rfl ?_
  refine x_iconst hC dX2_town_14 (q := 15) rfl (v := (0)) (by decide) ?_
  refine x_put hC (n := (0, 0)) xf_X2_82_1 xd_1 rfl dX2_town_15 (q := 18) rfl hk2 rfl rfl rfl ?_
  obtain ⟨g3, hg3⟩ : ∃ x, x = xu g2 (0, 0) (some (kA σ 0 0, xO 1 [.ref (kA σ 1 0), .int 0, .ref (kA σ 2 0), .ref (kA σ 3 0), .int (iI (kI σ 1 0)), .int (iI (kI σ 2 0)), .int (iI (kI σ 3 0)), .ref (kA σ 10 0), .ref (kA σ 13 0), .ref (kA σ 8 0), .int (iI (kI σ 4 0)), .int (iI (kI σ 5 0)), .ref (kA σ 16 0), .long (kL σ 1 0), .ref (kA σ 18 0), .int (iI (kI σ 6 0))])) := ⟨_, rfl⟩
  refine x_geq hg3.symm ?_
  have hI3 : TI s0 g3 (tx.length, ht, kA σ 0 0) tx A V B d0 0 τ00 (fun _ => none) := by
    rw [hg3]
    obtain ⟨⟨⟨rest, ta, T, h1, h2, h3⟩, h4, h5, h6, h7⟩, h8, h9, h10, h11, fo, ca, ka, pa, h12, h13⟩ := hI2
    have q6 : kA σ 1 0 = ta := by
      have q := hk2.symm.trans h1
      injection q with q1
      injection q1 with _ q2
      injection q2 with q3
      injection q3 with _ q4
      injection q4 with q5 _
      injection q5
    subst q6
    refine ⟨⟨⟨_, _, T, xu_eq _ _ _, (xu_ne (n_fst rfl)).trans h2, h3⟩, h4, h5, h6, h7.up rfl _⟩, h8, h9.up rfl _, ⟨fun i hi => (xu_ne (n_fst rfl)).trans (h10.1 i hi), (xu_ne (n_fst rfl)).trans h10.2⟩, h11.ext (fun n a b => xu_ne (fun q => by rw [q] at a; exact absurd a (by decide))), fo, ca, ka, pa, h12.ext (fun n a b => xu_ne (fun q => by rw [q] at a; exact absurd a (by decide))), fun j hj => (h13 j hj).ext (Nat.le_refl _) (fun i _ => xu_ne (n_fst rfl))⟩
  have hq3 : PSt g3 a_0 (tx.length, ht, kA σ 0 0) tx 0 0 0 false tk := by rw [hg3]; exact hq2.f0 (xu_ne (n_fst rfl))
  obtain ⟨at3, bd3, pl3, nb3, wh3, sn3, sg3, wd3, hs3⟩ := hq3.sc
  refine x_aloadr_n hC dX2_town_18 (q := 19) rfl rfl ?_
  refine x_callV hC xv_X2_112 dX2_town_19 (q := 22) rfl rfl (m_X5_town h0 _ hI3 hq3 hrun (by show 0 + n < 80; omega)) (nn := (60, 0)) hs3 rfl rfl (Nat.le_of_ble_eq_true rfl) ⟨(by (try dsimp only); omega), (by (try dsimp only); omega)⟩ ⟨(by (try dsimp only); omega), (by (try dsimp only); omega)⟩ (fun v g4 hp => ?_)
  obtain ⟨rfl, Nf, hI4, hx4⟩ := hp
  have hk4 : g4 (0, 0) = some (kA σ 0 0, xO 1 [.ref (kA σ 1 0), .int 0, .ref (kA σ 2 0), .ref (kA σ 3 0), .int (iI (kI σ 1 0)), .int (iI (kI σ 2 0)), .int (iI (kI σ 3 0)), .ref (kA σ 10 0), .ref (kA σ 13 0), .ref (kA σ 8 0), .int (iI (kI σ 4 0)), .int (iI (kI σ 5 0)), .ref (kA σ 16 0), .long (kL σ 1 0), .ref (kA σ 18 0), .int (iI (kI σ 6 0))]) := (hx4 _ rfl).trans (by rw [hg3]; exact xu_eq _ _ _)
  have hrest : ∀ n : xN, n ≠ (0, 0) → rdP n = false → g4 n = kmix σ gF n := fun n q1 q2 => by
    rw [hx4 n q2, hg3, xu_ne q1, hx2 n q2, xu_ne (fun e => by rw [e] at q2; cases q2)]
  obtain ⟨-, -, -, -, -, fo, ca, ka, pa, ⟨la, lk, hT0, hT1, hT2, hT3, hT4, hT5, hT6⟩, hfm⟩ := hI4
  obtain ⟨da, mc, hl1, hl2, hl3⟩ := hT1
  obtain ⟨dk, mk, hm1, hm2, hm3⟩ := hT2
  have e10 : g4 (10, 0) = some (kA σ 10 0, xO 21 [.int (iI (kI σ 16 0)), .ref (kA σ 11 0), .int 0]) := (hrest _ (n_fst rfl) rfl).trans (by show some _ = some _; rw [hEm.1 63 (by decide) (by decide)]; rfl)
  have e13 : g4 (13, 0) = some (kA σ 13 0, xO 21 [.int (iI (kI σ 17 0)), .ref (kA σ 14 0), .int 0]) := (hrest _ (n_fst rfl) rfl).trans (by show some _ = some _; rw [hEm.1 64 (by decide) (by decide)]; rfl)
  have e16 : g4 (16, 0) = some (kA σ 16 0, xO 21 [.int (iI (kI σ 18 0)), .ref (kA σ 17 0), .int 0]) := (hrest _ (n_fst rfl) rfl).trans (by show some _ = some _; rw [hEm.1 65 (by decide) (by decide)]; rfl)
  refine x_astorer_n hC dX2_town_22 (q := 23) rfl rfl ?_
  refine x_aloadr_n hC dX2_town_23 (q := 24) rfl rfl ?_
  refine x_aloadr_n hC dX2_town_24 (q := 25) rfl rfl ?_
  refine x_put hC (n := (0, 0)) xf_X2_20_1 xd_1 rfl dX2_town_25 (q := 28) rfl hk4 rfl rfl rfl ?_
  refine x_aloadr_n hC dX2_town_28 (q := 29) rfl rfl ?_
  refine x_iconst hC dX2_town_29 (q := 30) rfl (v := (0)) (by decide) ?_
  refine x_put hC (n := (0, 0)) xf_X2_116_1 xd_1 rfl dX2_town_30 (q := 33) rfl (xu_eq _ _ _) rfl rfl rfl ?_
  rw [xu_xu]
  refine x_aloadr_n hC dX2_town_33 (q := 34) rfl rfl ?_
  refine x_iconst hC dX2_town_34 (q := 35) rfl (v := (-1)) (by decide) ?_
  refine x_put hC (n := (0, 0)) xf_X2_24_1 xd_1 rfl dX2_town_35 (q := 38) rfl (xu_eq _ _ _) rfl rfl rfl ?_
  rw [xu_xu]
  refine x_aloadr_n hC dX2_town_38 (q := 39) rfl rfl ?_
  refine x_iconst hC dX2_town_39 (q := 40) rfl (v := (0)) (by decide) ?_
  refine x_put hC (n := (0, 0)) xf_X2_119_1 xd_1 rfl dX2_town_40 (q := 43) rfl (xu_eq _ _ _) rfl rfl rfl ?_
  rw [xu_xu]
  obtain ⟨g5, hg5⟩ : ∃ x, x = xu g4 (0, 0) (some (kA σ 0 0, xO 1 [.ref (kA σ 1 0), .int 0, .ref (kA σ 2 0), .ref ht, .int 0, .int (-1), .int 0, .ref (kA σ 10 0), .ref (kA σ 13 0), .ref (kA σ 8 0), .int (iI (kI σ 4 0)), .int (iI (kI σ 5 0)), .ref (kA σ 16 0), .long (kL σ 1 0), .ref (kA σ 18 0), .int (iI (kI σ 6 0))])) := ⟨_, rfl⟩
  refine x_geq hg5.symm ?_
  have k5 : g5 (0, 0) = some (kA σ 0 0, xO 1 [.ref (kA σ 1 0), .int 0, .ref (kA σ 2 0), .ref ht, .int 0, .int (-1), .int 0, .ref (kA σ 10 0), .ref (kA σ 13 0), .ref (kA σ 8 0), .int (iI (kI σ 4 0)), .int (iI (kI σ 5 0)), .ref (kA σ 16 0), .long (kL σ 1 0), .ref (kA σ 18 0), .int (iI (kI σ 6 0))]) := by rw [hg5]; exact xu_eq _ _ _
  have o5 : ∀ n : xN, n ≠ (0, 0) → g5 n = g4 n := fun n q => by rw [hg5, xu_ne q]
  refine x_aloadr_n hC dX2_town_43 (q := 44) rfl rfl ?_
  refine x_get hC xf_X2_31_1 dX2_town_44 (q := 47) rfl (n := (0, 0)) (k5) rfl ?_
  refine x_callV hC xv_X2_122 dX2_town_47 (q := 50) rfl rfl (m_J3_clear_0 h0 _ (n := (10, 0)) rfl ((o5 _ (n_fst rfl)).trans e10)) (nn := (10, 0)) ((o5 _ (n_fst rfl)).trans e10) rfl rfl (Nat.le_of_ble_eq_true rfl) ⟨(by (try dsimp only); omega), (by (try dsimp only); omega)⟩ ⟨(by (try dsimp only); omega), (by (try dsimp only); omega)⟩ (fun v g1 hp => ?_)
  obtain ⟨rfl, hg1⟩ := hp
  replace hg1 := hg1.symm
  subst hg1
  refine x_aloadr_n hC dX2_town_50 (q := 51) rfl rfl ?_
  refine x_get hC xf_X2_35_1 dX2_town_51 (q := 54) rfl (n := (0, 0)) ((xu_ne (n_fst rfl)).trans k5) rfl ?_
  refine x_callV hC xv_X2_122 dX2_town_54 (q := 57) rfl rfl (m_J3_clear_0 h0 _ (n := (13, 0)) rfl ((xu_ne (n_fst rfl)).trans ((o5 _ (n_fst rfl)).trans e13))) (nn := (13, 0)) ((xu_ne (n_fst rfl)).trans ((o5 _ (n_fst rfl)).trans e13)) rfl rfl (Nat.le_of_ble_eq_true rfl) ⟨(by (try dsimp only); omega), (by (try dsimp only); omega)⟩ ⟨(by (try dsimp only); omega), (by (try dsimp only); omega)⟩ (fun v g1 hp => ?_)
  obtain ⟨rfl, hg1⟩ := hp
  replace hg1 := hg1.symm
  subst hg1
  refine x_aloadr_n hC dX2_town_57 (q := 58) rfl rfl ?_
  refine x_get hC xf_X2_45_1 dX2_town_58 (q := 61) rfl (n := (0, 0)) ((xu_ne (n_fst rfl)).trans ((xu_ne (n_fst rfl)).trans k5)) rfl ?_
  refine x_callV hC xv_X2_122 dX2_town_61 (q := 64) rfl rfl (m_J3_clear_0 h0 _ (n := (16, 0)) rfl ((xu_ne (n_fst rfl)).trans ((xu_ne (n_fst rfl)).trans ((o5 _ (n_fst rfl)).trans e16)))) (nn := (16, 0)) ((xu_ne (n_fst rfl)).trans ((xu_ne (n_fst rfl)).trans ((o5 _ (n_fst rfl)).trans e16))) rfl rfl (Nat.le_of_ble_eq_true rfl) ⟨(by (try dsimp only); omega), (by (try dsimp only); omega)⟩ ⟨(by (try dsimp only); omega), (by (try dsimp only); omega)⟩ (fun v g1 hp => ?_)
  obtain ⟨rfl, hg1⟩ := hp
  replace hg1 := hg1.symm
  subst hg1
  refine x_aloadr_n hC dX2_town_64 (q := 65) rfl rfl ?_
  refine x_get hC xf_X2_125_2 dX2_town_65 (q := 68) rfl (n := (70, 0)) ((xu_ne (n_fst rfl)).trans ((xu_ne (n_fst rfl)).trans ((xu_ne (n_fst rfl)).trans ((o5 _ (n_fst rfl)).trans hT0)))) rfl ?_
  obtain ⟨g6, hg6⟩ : ∃ x, x = (xu (xu (xu g5 (10, 0) (some (kA σ 10 0, xO 21 [.int (iI (kI σ 16 0) + 1), .ref (kA σ 11 0), .int 0]))) (13, 0) (some (kA σ 13 0, xO 21 [.int (iI (kI σ 17 0) + 1), .ref (kA σ 14 0), .int 0]))) (16, 0) (some (kA σ 16 0, xO 21 [.int (iI (kI σ 18 0) + 1), .ref (kA σ 17 0), .int 0]))) := ⟨_, rfl⟩
  refine x_geq hg6.symm ?_
  have f6 : ∀ n : xN, n ≠ (0, 0) → n ≠ (10, 0) → n ≠ (13, 0) → n ≠ (16, 0) → g6 n = g4 n := fun n q0 q1 q2 q3 => by rw [hg6, xu_ne q3, xu_ne q2, xu_ne q1]; exact o5 n q0
  have k6 : g6 (0, 0) = some (kA σ 0 0, xO 1 [.ref (kA σ 1 0), .int 0, .ref (kA σ 2 0), .ref ht, .int 0, .int (-1), .int 0, .ref (kA σ 10 0), .ref (kA σ 13 0), .ref (kA σ 8 0), .int (iI (kI σ 4 0)), .int (iI (kI σ 5 0)), .ref (kA σ 16 0), .long (kL σ 1 0), .ref (kA σ 18 0), .int (iI (kI σ 6 0))]) := by rw [hg6, xu_ne (n_fst rfl), xu_ne (n_fst rfl), xu_ne (n_fst rfl)]; exact k5
  have r6 : ∀ n : xN, n ≠ (0, 0) → n ≠ (10, 0) → n ≠ (13, 0) → n ≠ (16, 0) → rdP n = false → g6 n = kmix σ gF n := fun n q0 q1 q2 q3 q => (f6 n q0 q1 q2 q3).trans (hrest n q0 q)
  obtain ⟨sa, hsa⟩ : ∃ sa : Nat → Nat, ∀ c, c < tnc X1.1 → g4 (75, c) = some (ca c, xO 5 [.ref (sa c), .int (nI c), .int (nI (tcl X1.1 c)), .int (nI (tgr X1.1 c)), .int (-1), .int (-1), .int 0, .null, .int 0]) := by
    have q : ∀ c, ∃ s, c < tnc X1.1 → g4 (75, c) = some (ca c, xO 5 [.ref s, .int (nI c), .int (nI (tcl X1.1 c)), .int (nI (tgr X1.1 c)), .int (-1), .int (-1), .int 0, .null, .int 0]) := fun c => by
      by_cases hc : c < tnc X1.1
      · obtain ⟨s, v, e1, -⟩ := hT3 c hc
        exact ⟨s, fun _ => e1⟩
      · exact ⟨0, fun r => absurd r hc⟩
    exact Classical.axiomOfChoice q
  obtain ⟨sb, hsb⟩ : ∃ sb : Nat → Nat, ∀ c, c < tnk X1.1 → g4 (78, c) = some (ka c, xO 6 [.ref (sb c), .int (nI c), .int (nI (trm X1.1 c)), .int (-1), .ref (pa c)]) ∧ g4 (79, c) = some (pa c, xAr (.object "KilnBench$Child") 6 (fun _ => none)) := by
    have q : ∀ c, ∃ s, c < tnk X1.1 → g4 (78, c) = some (ka c, xO 6 [.ref s, .int (nI c), .int (nI (trm X1.1 c)), .int (-1), .ref (pa c)]) ∧ g4 (79, c) = some (pa c, xAr (.object "KilnBench$Child") 6 (fun _ => none)) := fun c => by
      by_cases hc : c < tnk X1.1
      · obtain ⟨s, v, e1, e2, -⟩ := hT4 c hc
        exact ⟨s, fun _ => ⟨e1, e2⟩⟩
      · exact ⟨0, fun r => absurd r hc⟩
    exact Classical.axiomOfChoice q
  have hgT : ∀ n : xN, 40 ≤ n.1 → n.1 ≠ 200 → rdP n = false → gTw g6 n = gF n := fun n a b c => by
    have h9 : ¬ (60 ≤ n.1 ∧ n.1 ≤ 62 ∨ 70 ≤ n.1 ∧ n.1 ≤ 81) := fun q => by
      unfold rdP at c
      rw [Bool.or_eq_false_iff, Bool.or_eq_false_iff, Bool.and_eq_false_iff] at c
      rcases q with q | q
      · rw [show tokP n = true from by
          unfold tokP
          rw [Bool.or_eq_true, Bool.or_eq_true]
          rcases (by omega : n.1 = 60 ∨ n.1 = 61 ∨ n.1 = 62) with e | e | e
          · exact Or.inl (by rw [e]; rfl)
          · exact Or.inr (Or.inl (by rw [e]; rfl))
          · exact Or.inr (Or.inr (by rw [e]; rfl))] at c
        exact absurd c.1 (by decide)
      · rcases c.2.1 with e | e
        · rw [Nat.ble_eq_true_of_le q.1] at e; cases e
        · rw [Nat.ble_eq_true_of_le q.2] at e; cases e
    unfold gTw
    rw [if_neg h9, r6 n (fun e => by rw [e] at a; exact absurd a (by decide)) (fun e => by rw [e] at a; exact absurd a (by decide)) (fun e => by rw [e] at a; exact absurd a (by decide)) (fun e => by rw [e] at a; exact absurd a (by decide)) c, kmix_F _ _ _ (Bool.eq_false_iff.mpr (fun q => by have := Nat.le_of_ble_eq_true q; omega))]
  have hTown : KTown σ (kTw σ X1.1 ht la da lk dk mc.toInt mk.toInt fo ca ka pa sa sb) gF (gTw g6) d0 X1.1 X1.2 := by
    refine ⟨ht, la, da, lk, dk, mc.toInt, mk.toInt, fo, ca, ka, pa, sa, sb, rfl, fun q => (hl2 q).1, fun q => (hm2 q).1, fun j hj => ?_, hT5, hT6, hgT, fun n q => if_pos q⟩
    rcases hfm j hj with q | ⟨a, fn, q1, q2, q3⟩
    · exact Or.inl q
    · refine Or.inr ⟨a, fn, q1, q2, aR_sub (fun n x q => ?_) _ _ _ _ q3⟩
      unfold fW at q
      split at q
      · next e =>
        unfold gTw
        rw [if_neg (by omega), f6 n (fun r => by rw [r] at e; exact absurd e.1 (by decide)) (fun r => by rw [r] at e; exact absurd e.1 (by decide)) (fun r => by rw [r] at e; exact absurd e.1 (by decide)) (fun r => by rw [r] at e; exact absurd e.1 (by decide))]
        exact q
      · cases q
  refine x_perm (fun n => (kRo n.1, n.2)) (fun n h => kRo_1000 h) (fun n h => by rw [kRo_big (by omega)]) (fun n k _ _ h => by
    have e1 : kRo n.1 = kRo k.1 := by injection h
    have e2 : n.2 = k.2 := by injection h
    have e3 : n.1 = k.1 := by rw [← kRo_inv n.1, e1, kRo_inv]
    exact Prod.ext e3 e2) (g' := kmix (kTw σ X1.1 ht la da lk dk mc.toInt mk.toInt fo ca ka pa sa sb) (gTw g6)) (fun n x hx => ?_) ?_
  · obtain ⟨n1, i⟩ := n
    cases hb : Nat.blt n1 40 with
    | true =>
      rw [kmix_eq _ _ _ _ hb] at hx
      exact kTw_cells hEm hT5 hT6 k6 (by rw [hg6, xu_ne (n_fst rfl), xu_ne (n_fst rfl), xu_eq]) (by rw [hg6, xu_ne (n_fst rfl), xu_eq]) (by rw [hg6, xu_eq]) r6 f6 hT0 hl1 hl3 hm1 hm3 hsa hsb n1 i x hb hx
    | false =>
      rw [kmix_F _ _ _ hb] at hx
      unfold gTw at hx
      split at hx
      · cases hx
      · next e =>
        have e2 : kRo n1 = n1 := kRo_o (by
          have hb2 : 40 ≤ n1 := Nat.le_of_not_lt (fun q => by rw [show Nat.blt n1 40 = true from Nat.ble_eq_true_of_le q] at hb; cases hb)
          dsimp only at e
          have ne : ∀ {a b : Nat}, (n1 < a ∨ b < n1) → (Nat.ble a n1 && Nat.ble n1 b) = false := fun q => by
            rw [Bool.and_eq_false_iff]
            rcases q with q | q
            · exact Or.inl (Bool.eq_false_iff.mpr (fun r => by have := Nat.le_of_ble_eq_true r; omega))
            · exact Or.inr (Bool.eq_false_iff.mpr (fun r => by have := Nat.le_of_ble_eq_true r; omega))
          unfold kRoB
          rw [ne (by omega), ne (by omega), ne (by omega), ne (by omega)]; rfl)
        show g6 (kRo n1, i) = some x
        rw [e2]
        exact hx
  exact x_iret hC hr dX2_town_68 (by (try dsimp only); omega) (by (try dsimp only); omega) ⟨rfl, _, _, hTown, rfl⟩
