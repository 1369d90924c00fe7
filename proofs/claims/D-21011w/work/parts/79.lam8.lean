/-! LAMBDAS: those that capture nothing -/
section LAMZ
variable {p : Program} {l : Launch} {e : Env} {R : Room} {s s' : State} {m : MethodId} {args args' : Array Value} {below below' : List Frame} {meth methk : Method} {c ck : Code} {s0 : State} {D : va_G} {Q : State → Prop} {cells slots : Nat} {g : xG} {own : String} {cc by0 : ByteArray} {pc q : Nat} {lv : xL} {st : List Value} {cK : ClassId}
/-- the one object of a lambda that captures nothing -/
def xlC (s0 : State) (y : MethodName) (pc index : Nat) (σ : Jvm.Lambda.Shape) (a : Nat) : Prop := ∃ (cK : ClassId) (cell : Cell), s0.lambdaAt? y pc index σ = some (cK, some a) ∧ s0.heap[a]? = some cell ∧ cell.cls = cK ∧ cell.vm = .none
theorem x_indyC (hC : xC p l s0 s D m args meth c own cc) {y : MethodName} (hnm : s.methodNamed? y = some m) {index : Nat} {σ : Jvm.Lambda.Shape}
    (hw : Cond.lambdaSite y pc index σ ∈ flatC (Jvm.Cond.and given_1 narrow_1)) (hcap : σ.captured.isEmpty = true)
    (d : decode cc pc = .ok (.invokedynamic index, 5)) (hq : pc + 5 = q) (hrest : (st.map fun v => v.category).sum ≤ 8) (hR : 3080 ≤ R.locals)
    (k : ∀ a : Nat, xlC s0 y pc index σ a → XW p l e R s m args below meth c s0 D Q cells slots g q lv (.ref a :: st)) : XW p l e R s m args below meth c s0 D Q cells slots g pc lv st := by
  subst hq; intro H locs ls hm hI hS hl T hT X
  have hA := hC.warm.alike
  obtain ⟨b0, -, hb0⟩ := hC.2.2.2.2.2.2.1.flat
  obtain ⟨cK, one, hat⟩ := Cond.lambdaSite_spec (hb0 _ hw)
  obtain ⟨m', kS, cfS, i0, p0, lk, hm', hkS, hcfS, hsh, -, hfind, hmade, hcan, hlk⟩ := State.lambdaAt?_spec hat
  have hnm0 : s0.methodNamed? y = some m := by
    have := State.methodNamed?_setVm (s := s0) hA y
    rw [← this]
    exact hnm
  cases hnm0.symm.trans hm'
  obtain ⟨a, cell, hlk, hone, -, hcell, hcls, hvm, -⟩ : ∃ a cell, lk = .constant a ∧ one = some a ∧ σ.captured = [] ∧ s0.heap[a]? = some cell ∧ cell.cls = cK ∧ cell.vm = .none ∧ cell.slots = #[] := by
    rcases hlk with h | ⟨-, -, h⟩
    · exact h
    · exact absurd (List.isEmpty_iff.mp hcap) h
  subst hlk; subst hone
  obtain ⟨kS1, hkS1, heS⟩ := hA.2.2 _ _ hkS
  obtain ⟨t, a2, b2⟩ := k a ⟨cK, cell, hat, hcell, hcls, hvm⟩ H locs ls hm hI hS hl T hT X
  refine ⟨t, ?_, b2⟩
  have hh : 2 * (F0 m pc ls st).monitorRoom + (st.map fun v => v.category).sum ≤ 8 := lv_room hrest
  exact X.lambdaConstant hC.1 (g := F0 m pc ls st) rfl (hl.1.trans hm.symm) (by rw [hC.2.1]; exact d) hkS1 (by rw [heS]; exact hfind)
    (by rw [X.admits.platform]; show 2 * (F0 m pc ls st).monitorRoom + (st.map fun v => v.category).sum + 3072 ≤ R.locals; omega) a2
/-- a cast in the made frame -/
theorem xl_cast (hC : xC p l s0 s D m args meth c own cc) (hb : ck.code = by0) (hW : s.WarmedH s'.vm) {index a ci : Nat} {nn : xN} {fs : List Value} (hg : g nn = some (a, .inr (ci, fs)))
    (hr : ∀ T : State, s'.WarmedH T.vm → ∀ x, T.vm.findClass (xnm (.inr (ci, fs))) = some x → T.vm.classReady cK index x) (d : decode by0 pc = .ok (.checkcast index, 3)) (hq : pc + 3 = q)
    (k : XW p l e R s' ⟨cK, 1⟩ args' below' methk ck s0 D Q cells slots g q lv (.ref a :: st)) (hok : Nat.blt ci 24 = true := by rfl) : XW p l e R s' ⟨cK, 1⟩ args' below' methk ck s0 D Q cells slots g pc lv (.ref a :: st) := by
  subst hq; intro H locs ls hm hI hS hl T hT X
  obtain ⟨cell, c1, c2, c3⟩ := hI.recv hC hg hok
  subst hb
  have hWT := State.WarmedH.trans (s := s) (t := s') hW X.warmed
  obtain ⟨t, a1, b1⟩ := k H locs ls hm hI hS hl T hT X
  have hf : T.vm.findClass (xnm (.inr (ci, fs))) = some cell.cls := by rw [hWT.alike.findClass]; exact c3
  obtain ⟨ks, hks⟩ : ∃ ks, T.vm.classes[cell.cls]? = some ks := by
    obtain ⟨r, hr1⟩ := hI.ci hg hok
    obtain ⟨-, hfc, kC, hkC, -⟩ := hC.kn.1 ci _ hr1
    have e1 : xnm (.inr (ci, fs)) = r.1 := by simp only [xnm, hr1]
    rw [e1, hfc] at c3
    have e2 := Option.some.inj c3
    rw [e2] at hkC
    obtain ⟨k2, h2, -⟩ := hWT.alike.2.2 _ _ hkC
    exact ⟨k2, h2⟩
  have has : T.vm.assignable cell.cls cell.cls = true := by
    show T.vm.assignableAux 256 cell.cls cell.cls = true
    unfold Vm.assignableAux
    simp
  refine ⟨t, ?_, b1⟩
  jvm_step X.here [hC.1, d, Op.checkcast.wp_ready (e := e) (s := T) (c := cell.cls) (x := .ref a) (rest := st) (f := F0 ⟨cK, 1⟩ pc ls (.ref a :: st)) X.here.top (hr T X.warmed _ hf) rfl]
  refine ⟨cell, by rw [hT]; exact c1, fun k h => (by rw [h] at c2; cases c2), ks, hks, ks, hks, ?_⟩
  rw [if_pos has]
  exact a1
end LAMZ
