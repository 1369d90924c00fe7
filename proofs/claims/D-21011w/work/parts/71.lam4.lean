/-! LAMBDAS: the site that makes an object -/
theorem xl_site {cf : ClassFile} {index : Nat} {σ : Jvm.Lambda.Shape} (h : Jvm.Lambda.shapeOf? cf index = some σ) :
    ∃ (b nt : Nat) (name desc : String) (site : MethodDescriptor), cf.constantPool[index]? = some (.invokeDynamic b nt) ∧ cf.constantPool.nameAndType? nt = some (name, desc) ∧ parseMethodDescriptor desc = some site ∧ site.parameters = σ.captured := by
  unfold Jvm.Lambda.shapeOf? at h
  split at h
  · rename_i b nt hc
    obtain ⟨entries, -, h⟩ := Option.bind_eq_some_iff.mp h
    obtain ⟨bm, -, h⟩ := Option.bind_eq_some_iff.mp h
    split at h
    · obtain ⟨_, -, h⟩ := Option.bind_eq_some_iff.mp h
      generalize bm.bootstrapArguments = arr at h
      obtain ⟨L⟩ := arr
      have h3 : ∃ a0 a1 a2, L = [a0, a1, a2] := by
        rcases L with _ | ⟨a0, _ | ⟨a1, _ | ⟨a2, _ | ⟨a3, L⟩⟩⟩⟩
        · cases (show (none : Option Jvm.Lambda.Shape) = some σ from h)
        · cases (show (none : Option Jvm.Lambda.Shape) = some σ from h)
        · cases (show (none : Option Jvm.Lambda.Shape) = some σ from h)
        · exact ⟨_, _, _, rfl⟩
        · cases (show (none : Option Jvm.Lambda.Shape) = some σ from h)
      obtain ⟨a0, a1, a2, rfl⟩ := h3
      conv at h => lhs; whnf
      split at h
      · split at h
        · split at h
          · obtain ⟨⟨name, desc⟩, hnt, h⟩ := Option.bind_eq_some_iff.mp h
            obtain ⟨site, hsite, h⟩ := Option.bind_eq_some_iff.mp h
            dsimp only at h
            split at h
            · simp only [Option.bind_eq_bind, Option.bind_eq_some_iff, Option.pure_def, Option.some.injEq] at h
              obtain ⟨_, -, h⟩ := h
              obtain ⟨_, -, _, -, _, -, _, -, _, -, h⟩ := h
              rw [← h]
              exact ⟨b, nt, name, desc, site, hc, hnt, hsite, rfl⟩
            · cases h
          · cases h
        · cases h
      · cases h
    · cases h
  · cases h
theorem xl_types {e : Setting} {vm : Vm} {d c : ClassId} {σ : Jvm.Lambda.Shape} {dk : Class} {cf0 : ClassFile} {lay0 : Array Field × Array FieldType × Array FieldType} (hd : vm.classes[d]? = some dk) (hname : dk.name = "KilnBench") (h : Jvm.Lambda.isMade e vm d σ c = true)
    (hO : ∀ o ok, vm.findClass "java/lang/Object" = some o → vm.classes[o]? = some ok → ok.instanceTypes.size = 0) (hf : σ.file "KilnBench" = some cf0) (hl : layoutFields cf0 0 = some lay0) : ∃ k : Class, vm.classes[c]? = some k ∧ k.kind = .ordinary ∧ k.instanceTypes = lay0.2.1 := by
  obtain ⟨dk', k, ok, tk, file, cf, object, iface, toy, lay, methods, target, found, hd', hk, hfile, hcf, hobj, -, hok, hlay, hms, ht, htk, hg, -, hrec, -, -, -, hitf, hpool, hmeth, hfields, hty, hres, -⟩ := Jvm.Lambda.isMade_spec h
  cases hd.symm.trans hd'
  rw [hname, hf] at hcf
  cases hcf
  rw [hO object ok hobj hok, hl] at hlay
  cases hlay
  have h0 : ok.instanceTypes = #[] := Array.eq_empty_of_size_eq_zero (hO object ok hobj hok)
  exact ⟨k, hk, hrec.2.1, by rw [hty.1, h0, Array.empty_append]⟩
section LAMI
variable {p : Program} {l : Launch} {e : Env} {R : Room} {s : State} {m : MethodId} {args : Array Value} {below : List Frame} {meth : Method} {c : Code} {s0 : State} {D : va_G} {Q : State → Prop} {cells slots : Nat} {g : xG} {own : String} {cc : ByteArray} {pc q : Nat} {lv : xL} {st : List Value}
theorem xC.obj0 (hC : xC p l s0 s D m args meth c own cc) : ∀ o ok, s.vm.findClass "java/lang/Object" = some o → s.vm.classes[o]? = some ok → ok.instanceTypes.size = 0 := by
  intro o ok h1 h2
  obtain ⟨c1, k1, a1, a2, -, -, -, a3⟩ := Cond.instantiable_spec (hC.hts _ q2261)
  cases h1.symm.trans a1
  cases h2.symm.trans a2
  exact a3
theorem xl_obj0 {vm1 : Vm} (hW : s.WarmedH vm1) (h : ∀ o ok, s.vm.findClass "java/lang/Object" = some o → s.vm.classes[o]? = some ok → ok.instanceTypes.size = 0) : ∀ o ok, vm1.findClass "java/lang/Object" = some o → vm1.classes[o]? = some ok → ok.instanceTypes.size = 0 := by
  intro o ok h1 h2
  have hA := hW.alike
  rw [hA.findClass] at h1
  obtain ⟨ok0, h3, h4⟩ := hA.symm.2.2 _ _ h2
  have := h o ok0 h1 h3
  rw [h4] at this
  exact this
/-- a new lambda's object is named -/
theorem xI.newL {H H1 : Heap} {n : xN} {a : Nat} {y : xE} (h : xI s0 D g H) (hd : 2000 ≤ n.1) (hn : g n = none) (ha : H.size ≤ a) (hz : H.size ≤ H1.size) (ho : ∀ q : Nat, q < H.size → H1[q]? = H[q]?) (hy : xlm s0 a y H1) : xI s0 D (xu g n (some (a, y))) H1 := by
  obtain ⟨h1, h2, h3, h4⟩ := h
  have hlt : ∀ (k : xN) (b : Nat) (z : xE), g k = some (b, z) → b < H.size := fun k b z hk => by
    rcases h3 k b z hk with q | q | q
    · exact q.2.2.lt
    · have := q.2.1; omega
    · exact q.2.2.lt
  refine ⟨by omega, fun q hq => ?_, fun k b z hk => ?_, fun k j b z z' dk dj hk hj => ?_⟩
  · rw [ho q (by omega)]; exact h2 q hq
  · by_cases e : k = n
    · subst e
      rw [xu_eq] at hk
      cases hk
      exact Or.inr (Or.inr ⟨hd, by omega, hy⟩)
    · rw [xu_ne e] at hk
      rcases h3 k b z hk with q | q | q
      · exact Or.inl ⟨q.1, q.2.1, q.2.2.kept (ho b (hlt k b z hk))⟩
      · exact Or.inr (Or.inl q)
      · exact Or.inr (Or.inr ⟨q.1, q.2.1, q.2.2.kept (ho b (hlt k b z hk))⟩)
  · by_cases e : k = n
    · by_cases e2 : j = n
      · rw [e, e2]
      · rw [e, xu_eq] at hk
        rw [xu_ne e2] at hj
        cases hk
        exact absurd (hlt j _ _ hj) (by omega)
    · by_cases e2 : j = n
      · rw [e2, xu_eq] at hj
        rw [xu_ne e] at hk
        cases hj
        exact absurd (hlt k _ _ hk) (by omega)
      · rw [xu_ne e] at hk
        rw [xu_ne e2] at hj
        exact h4 k j b z z' dk dj hk hj
/-- a lambda that captures -/
theorem x_indy (hC : xC p l s0 s D m args meth c own cc) {y : MethodName} (hnm : s.methodNamed? y = some m) {index ci : Nat} {σ : Jvm.Lambda.Shape} {cf0 : ClassFile} {lay0 : Array Field × Array FieldType × Array FieldType} {vals rest : List Value} (n : xN)
    (hw : Cond.lambdaSite y pc index σ ∈ flatC (Jvm.Cond.and given_1 narrow_1)) (hxl : ∀ s0, xls s0 ci = (s0.lambdaAt? y pc index σ).map (·.1)) (hci : Nat.ble 24 ci = true) (hcap : σ.captured.isEmpty = false) (hy : y.cls = "KilnBench") (hf : σ.file "KilnBench" = some cf0) (hlay : layoutFields cf0 0 = some lay0)
    (hz : (lay0.2.1.toList.zip vals).map (fun (t, v) => narrow t v) = vals) (hlen : vals.length = σ.captured.length) (hfit : ∀ (i : Nat) (v : Value), vals[i]? = some v → (lay0.2.1[i]?).any (fun t => fits t v) = true)
    (d : decode cc pc = .ok (.invokedynamic index, 5)) (hq : pc + 5 = q) (hdy : Nat.ble 2000 n.1 = true) (hn : g n = none) (hst : st = vals.reverse ++ rest) (hrest : (st.map fun v => v.category).sum ≤ 8) (hR : 3080 ≤ R.locals) (hcells : cells + 1 ≤ R.cells) (hslots : slots + vals.length ≤ R.slots)
    (k : ∀ a : Nat, XW p l e R s m args below meth c s0 D Q (cells + 1) (slots + vals.length) (xu g n (some (a, .inr (ci, vals)))) q lv (.ref a :: rest)) : XW p l e R s m args below meth c s0 D Q cells slots g pc lv st := by
  subst hq; intro H locs ls hm hI hS hl T hT X
  have hA := hC.warm.alike
  obtain ⟨b0, -, hb0⟩ := hC.2.2.2.2.2.2.1.flat
  obtain ⟨cK, one, hat⟩ := Cond.lambdaSite_spec (hb0 _ hw)
  obtain ⟨m', kS, cfS, i0, p0, lk, hm', hkS, hcfS, hsh, -, hfind, hmade, hcan, hlk⟩ := State.lambdaAt?_spec hat
  have hnm0 : s0.methodNamed? y = some m := by
    have := State.methodNamed?_setVm (s := s0) hA y
    rw [← this]
    exact hnm
  cases hnm0.symm.trans hm'
  obtain ⟨hlk, -, -⟩ : lk = .makes cK ∧ one = none ∧ σ.captured ≠ [] := by
    rcases hlk with ⟨a, cell, -, -, h, -⟩ | h
    · rw [h] at hcap; cases hcap
    · exact h
  subst hlk
  obtain ⟨kS', hkS', hnameS⟩ := className_of_methodNamed hnm0
  cases hkS.symm.trans hkS'
  obtain ⟨bsm, nt, name, desc, site, hc7, hnt7, hsite, hpar⟩ := xl_site hsh
  obtain ⟨kS1, hkS1, heS⟩ := hA.2.2 _ _ hkS
  have hmade' := Jvm.Lambda.isMade_warmer hC.warm hmade
  obtain ⟨kK, hkK, hkind, hty⟩ := xl_types hkS1 (by rw [heS]; show kS.name = _; rw [hnameS, hy]) hmade' hC.obj0 hf hlay
  have hslotsE : ((kK.instanceTypes.toList.zip vals).map fun (t, v) => narrow t v) = vals := by rw [hty]; exact hz
  obtain ⟨X1, st1⟩ := X.lambdaMakes hC.1 (g := F0 m pc ls st) rfl (hl.1.trans hm.symm) (by rw [hC.2.1]; exact d) (vals := vals) (rest := rest) (i0 := i0) (p0 := p0) hkS1 (by rw [heS]; exact hfind) (by rw [heS]; exact hcfS) hc7 hnt7 (parseLong_of_parse hsite) (by rw [hpar]; exact hlen) hst hkK
    (by rw [X.admits.platform]; have hh : 2 * (F0 m pc ls st).monitorRoom + (st.map fun v => v.category).sum ≤ 8 := lv_room hrest; show 2 * (F0 m pc ls st).monitorRoom + (st.map fun v => v.category).sum + 3072 ≤ R.locals; omega) hcells (by rw [hslotsE]; exact hslots)
    (fun i v hv => by
      rw [hslotsE] at hv
      have h1 := hfit i v (by simpa using hv)
      rw [← hty] at h1
      obtain ⟨t, h2, h3⟩ : ∃ t, kK.instanceTypes[i]? = some t ∧ fits t v = true := by
        cases hx : kK.instanceTypes[i]? with
        | none => rw [hx] at h1; cases h1
        | some t => rw [hx] at h1; exact ⟨t, rfl, h1⟩
      simp [State.fitsSlot, State.slotType?, hkK, hkind, h2, h3])
  rw [hslotsE] at X1 st1
  have hH1 : (T.pushCell { cls := cK, slots := vals.toArray, vm := .none }).heap = H.push { cls := cK, slots := vals.toArray, vm := .none } := by rw [← hT]; rfl
  have e1 : (H.push ({ cls := cK, slots := vals.toArray, vm := .none } : Cell))[H.size]? = some { cls := cK, slots := vals.toArray, vm := .none } := Array.getElem?_push_size
  have z1 : (H.push ({ cls := cK, slots := vals.toArray, vm := .none } : Cell)).size = H.size + 1 := Array.size_push ..
  have o1 : ∀ q : Nat, q < H.size → (H.push ({ cls := cK, slots := vals.toArray, vm := .none } : Cell))[q]? = H[q]? := fun q hq => by rw [Array.getElem?_push, if_neg (Nat.ne_of_lt hq)]
  have hsz : vals.toArray.size = vals.length := List.size_toArray ..
  rw [hsz] at X1
  obtain ⟨t, a2, b2⟩ := k H.size _ locs ls hm (hI.newL (Nat.le_of_ble_eq_true hdy) hn (Nat.le_refl _) (by omega) o1 ⟨Nat.le_of_ble_eq_true hci, cK, by rw [hxl, hat]; rfl, e1⟩) (xS.new hS (by omega) o1) hl _ hH1 X1
  refine ⟨t, st1 t ?_, b2⟩
  rw [hT]
  exact a2
end LAMI
