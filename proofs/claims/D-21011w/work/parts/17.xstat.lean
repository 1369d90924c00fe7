/-! X LAYER: statics, String constants, super and inherited calls -/
abbrev xA0 (s0 : State) : Nat → Prop := fun q => s0.heap.size ≤ q
section XSa
variable {p : Program} {l : Launch} {e : Env} {R : Room} {s : State} {m : MethodId} {args : Array Value} {below : List Frame} {meth : Method} {c : Code} {s0 : State} {D : va_G} {Q : State → Prop} {cells slots : Nat} {g : xG} {own : String} {cc : ByteArray} {pc q : Nat} {lv : xL} {st : List Value}
theorem xlow {H : Heap} {locs : List Loc} (hC : xC p l s0 s D m args meth c own cc) (hI : xI s0 D g H) (hS : va_S (xA0 s0) s.heap H locs) : ∀ a : Nat, a < s0.heap.size → ¬ xA0 s0 a → s.heap[a]? = s0.heap[a]? := by
  intro a h1 h2
  rw [← hI.2.1 a h1]
  exact (hS.2.1 a (Nat.lt_of_lt_of_le h1 hC.2.2.2.2.2.2.2) h2).symm
theorem x_gets (hC : xC p l s0 s D m args meth c own cc) {idx : Nat} {C n dd : String} {v : Value} (hz : va_Z C n dd v (xA0 s0) s0 s0.heap) (hlk : Cond.fieldLink own idx C n dd ∈ lw_all ∨ ∃ host, Cond.fieldLinkNest own idx C n dd host ∈ lw_tbl) (d : decode cc pc = .ok (.getstatic idx, 3)) (hq : pc + 3 = q) (k : XW p l e R s m args below meth c s0 D Q cells slots g q lv (v :: st)) : XW p l e R s m args below meth c s0 D Q cells slots g pc lv st := by
  subst hq; intro H locs ls hm hI hS hl
  have hz1 : va_Z C n dd v (xA0 s0) s s.heap := va_Z.kept (va_Z.moved hC.warm.alike hz) (xlow hC hI hS)
  rcases hlk with h | ⟨host, h⟩
  · exact va_gets hC.1 hC.2.1 hz1 hS hC.2.2.1 (hC.hts _ h) (fun _ h => h) d (k H locs ls hm hI hS hl)
  · exact va_getsN hC.1 hC.2.1 hz1 hS hC.2.2.1 (xnestF hC h) (fun _ h => h) d (k H locs ls hm hI hS hl)
theorem x_ldcS (hC : xC p l s0 s D m args meth c own cc) {idx a : Nat} {tx : String} (hz : vk_R own idx tx a s0) (d : decode cc pc = .ok (.ldc idx, 2)) (hq : pc + 2 = q) (k : XW p l e R s m args below meth c s0 D Q cells slots g q lv (.ref a :: st)) : XW p l e R s m args below meth c s0 D Q cells slots g pc lv st := by
  subst hq; intro H locs ls hm hI hS hl
  exact va_ldcS hC.1 hC.2.1 hC.2.2.1 (vk_R.warm hC.warm hz) d (k H locs ls hm hI hS hl)
def xSu (own : String) (idx : Nat) (y : MethodName) (b : ByteArray) (L : Nat) (r : Option FieldType) (n : Nat) : Prop := GoodIn lw_all (va_wsSU own idx y (ws_ y b L r)) ∧ y.name ≠ "<init>" ∧ (parseMethodDescriptor y.desc).map (fun d => d.parameters.length) = some n
theorem lw_SU {own : String} {idx : Nat} {y : MethodName} {b : ByteArray} {L : Nat} {r : Option FieldType} (h1 : Cond.methodLink own idx y ∈ lw_all) (h2 : Cond.sameMethod y.cls y.cls y.name y.desc ∈ lw_all) (h3 : Cond.superclass own y.cls ∈ lw_all) (h4 : Cond.instanceMethod y ∈ lw_all) (h5 : Cond.initialized y.cls ∈ lw_all) (h6 : Cond.code y b L r ∈ lw_all) : GoodIn lw_all (va_wsSU own idx y (ws_ y b L r)) := by
  refine lw_app ?_ (lw_meth h6)
  intro w hw
  simp only [List.mem_cons, List.not_mem_nil, or_false] at hw
  rcases hw with e | e | e | e | e
  · rw [e]; exact h1
  · rw [e]; exact h2
  · rw [e]; exact h3
  · rw [e]; exact h4
  · rw [e]; exact h5
theorem x_callSU (hC : xC p l s0 s D m args meth c own cc) {idx n L a : Nat} {C : String} {y : MethodName} {b : ByteArray} {r : Option FieldType} {rm : Room} {As rest : List Value} {nn : xN} {ci : Nat} {fs : List Value} {post : Option Value → xG → Prop} (hv : xSu own idx y b L r n) (d : decode cc pc = .ok (.invokespecial idx, 3)) (hq : pc + 3 = q) (hst : st = As.reverse ++ .ref a :: rest) (hM : xMet l s0 D y b L r rm (.ref a :: As) g post) (hg : g nn = some (a, .inr (ci, fs))) (hx : xnm (.inr (ci, fs)) = C) (hn : As.length = n) (hrest : (rest.map fun v => v.category).sum ≤ 8) (hR : rm.frames + 1 ≤ R.frames ∧ 8 + (L + 11) + rm.locals ≤ R.locals) (hcs : cells + rm.cells ≤ R.cells ∧ slots + rm.slots ≤ R.slots)
    (k : ∀ (v : Option Value) (g' : xG), post v g' → XW p l e R s m args below meth c s0 D Q (cells + rm.cells) (slots + rm.slots) g' q lv (v.toList ++ rest)) (hok : Nat.blt ci 24 = true := by rfl) : XW p l e R s m args below meth c s0 D Q cells slots g pc lv st := by
  refine x_run (a := (Value.ref a :: As).toArray) (fun H locs ls hm hI hl => ?_) hq k
  have hat : ∃ cC, ClassAt s C cC := by
    obtain ⟨r', h1⟩ := hI.ci hg hok
    have e : xnm (.inr (ci, fs)) = r'.1 := by simp only [xnm, h1]
    exact ⟨_, by rw [← hx, e]; exact (hC.kn.1 ci r' h1).2⟩
  obtain ⟨cC, hat⟩ := hat
  exact va_runSU hat (hC.fix hm) hM (va_cwSU n hC.hts hv.1 rfl rfl rfl hv.2 hR) (xpreV hC hI hg hx As hok) rfl hn hl.1 hst (lv_room hrest) d hcs
def xUp (own : String) (idx : Nat) (C : String) (y : MethodName) (b : ByteArray) (L : Nat) (r : Option FieldType) (n : Nat) : Prop := GoodIn lw_all (va_wsU own idx C y.cls y y (ws_ y b L r)) ∧ y.cls ≠ "java/lang/invoke/MethodHandle" ∧ y.cls ≠ "java/lang/invoke/VarHandle" ∧ (parseMethodDescriptor y.desc).map (fun d => d.parameters.length) = some n
theorem lw_U {own C : String} {idx : Nat} {y : MethodName} {b : ByteArray} {L : Nat} {r : Option FieldType} (h1 : Cond.methodLink own idx y ∈ lw_all) (h2 : Cond.sameMethod y.cls y.cls y.name y.desc ∈ lw_all) (h3 : Cond.selects C y y ∈ lw_all) (h4 : Cond.instanceMethod y ∈ lw_all) (h5 : Cond.initialized y.cls ∈ lw_all) (h6 : Cond.code y b L r ∈ lw_all) : GoodIn lw_all (va_wsU own idx C y.cls y y (ws_ y b L r)) := by
  refine lw_app ?_ (lw_meth h6)
  intro w hw
  simp only [List.mem_cons, List.not_mem_nil, or_false] at hw
  rcases hw with e | e | e | e | e
  · rw [e]; exact h1
  · rw [e]; exact h2
  · rw [e]; exact h3
  · rw [e]; exact h4
  · rw [e]; exact h5
theorem x_callU (hC : xC p l s0 s D m args meth c own cc) {idx n L a : Nat} {C : String} {y : MethodName} {b : ByteArray} {r : Option FieldType} {rm : Room} {As rest : List Value} {nn : xN} {ci : Nat} {fs : List Value} {post : Option Value → xG → Prop} (hv : xUp own idx C y b L r n) (d : decode cc pc = .ok (.invokevirtual idx, 3)) (hq : pc + 3 = q) (hst : st = As.reverse ++ .ref a :: rest) (hM : xMet l s0 D y b L r rm (.ref a :: As) g post) (hg : g nn = some (a, .inr (ci, fs))) (hx : xnm (.inr (ci, fs)) = C) (hn : As.length = n) (hrest : (rest.map fun v => v.category).sum ≤ 8) (hR : rm.frames + 1 ≤ R.frames ∧ 8 + (L + 11) + rm.locals ≤ R.locals) (hcs : cells + rm.cells ≤ R.cells ∧ slots + rm.slots ≤ R.slots)
    (k : ∀ (v : Option Value) (g' : xG), post v g' → XW p l e R s m args below meth c s0 D Q (cells + rm.cells) (slots + rm.slots) g' q lv (v.toList ++ rest)) (hok : Nat.blt ci 24 = true := by rfl) : XW p l e R s m args below meth c s0 D Q cells slots g pc lv st := by
  refine x_run (a := (Value.ref a :: As).toArray) (fun H locs ls hm hI hl => ?_) hq k
  exact va_runU (owner := y.cls) (hC.fix hm) hM (va_cwU n hC.hts hv.1 rfl rfl rfl rfl hv.2 hR) (xpreV hC hI hg hx As hok) rfl hn hl.1 hst (lv_room hrest) d hcs
end XSa
section XSb
variable {l : Launch} {s0 : State} {D : va_G}
theorem x0.flat (h : x0 l s0 D) : ∃ b0 : Addr, (∀ w ∈ lw_tbl, w.before #[Value.ref b0] s0 = true) ∧ ∀ w ∈ flatC (Jvm.Cond.and given_1 narrow_1), w.before #[Value.ref b0] s0 = true := by
  obtain ⟨b0, h1, h2⟩ := h.2.2
  exact ⟨b0, h1, flat_of_before _ h2⟩
theorem xA0_lt : ∀ a : Nat, a < s0.heap.size → ¬ xA0 s0 a := fun a h q => absurd h (Nat.not_lt.mpr q)
theorem xz_compact (h : x0 l s0 D) : va_Z "java/lang/String" "COMPACT_STRINGS" "Z" (.int 1) (xA0 s0) s0 s0.heap := by
  obtain ⟨b0, h1, h2⟩ := h.flat
  exact va_Zof (h1 _ q443) (h1 _ (lw_all_tbl q87)) (va_eqi (h2 (Cond.eq (.static "java/lang/String" "COMPACT_STRINGS" "Z") (.int 1)) (by decide +kernel))) xA0_lt
end XSb
