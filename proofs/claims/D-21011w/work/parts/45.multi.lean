/-! multianewarray of two dimensions -/
/-- the named heap behind it: the outer array at no, the rows at (ki, j) -/
def xmu (g : xG) (no : xN) (ki N M : Nat) (ty : FieldType) (a : Nat) : xG := fun n => if n = no then some (a, xAr (.array ty) N (fun j => some (a + 1 + j))) else if n.1 = ki ∧ n.2 < N then some (a + 1 + n.2, xAi ty M (fun _ => 0)) else g n
theorem xarrV_ext {cI : ClassId} {N : Nat} {f g : Nat → Value} (h : ∀ j, j < N → f j = g j) : arrV cI N f = arrV cI N g := by
  unfold arrV
  congr 2
  funext j
  exact h j.val j.isLt
theorem xAO {ty : FieldType} {A : Array Value} {u U : State} (hvm : u.vm.Alike U.vm) (h : (Cond.arrayOver (.array ty)).before A u = true) (A' : Array Value) : (Cond.arrayOver (.array ty)).before A' U = true := by
  obtain ⟨comp, c, k, h1, h3, h4, h5⟩ := Cond.arrayOver_specA h
  have h2 : (u.vm.classes.findIdx? fun (x : Class) => match x.kind with | .array component _ => component == comp | _ => false) = some c := by
    have hh := h
    unfold Cond.before Cond.holds at hh
    simp only [Cond.value] at hh
    rw [h1, Option.bind_some] at hh
    cases hfi : (u.vm.classes.findIdx? fun (x : Class) => match x.kind with | .array component _ => component == comp | _ => false) with
    | none =>
      exfalso
      have e := (congrArg (fun o : Option Nat => (o.bind (fun c => (u.vm.classes[c]?).map fun (k : Class) => match k.kind with | .array _ t => decide (t = FieldType.array ty) && decide (u.vm.findClass ("[" ++ (FieldType.array ty).toString) = some c) | _ => false) == some true)) hfi)
      have := e.symm.trans hh
      simp at this
    | some c' =>
      have e := (congrArg (fun o : Option Nat => (o.bind (fun c => (u.vm.classes[c]?).map fun (k : Class) => match k.kind with | .array _ t => decide (t = FieldType.array ty) && decide (u.vm.findClass ("[" ++ (FieldType.array ty).toString) = some c) | _ => false) == some true)) hfi)
      have := e.symm.trans hh
      simp only [Option.bind_some, beq_iff_eq, Option.map_eq_some_iff] at this
      obtain ⟨k1, -, q⟩ := this
      split at q
      · simp only [Bool.and_eq_true, decide_eq_true_eq] at q
        rw [h5] at q
        rw [Option.some.inj q.2]
      · cases q
  obtain ⟨k', hk', he⟩ := hvm.2.2 _ _ h3
  have hi : (U.vm.classes.findIdx? fun (x : Class) => match x.kind with | .array component _ => component == comp | _ => false) = some c := by
    refine (va_idx_bare U.vm comp).symm.trans ?_
    have hbe : U.vm.bare = u.vm.bare := by first | exact hvm.bare_eq | exact hvm.bare_eq.symm
    rw [hbe]
    exact (va_idx_bare u.vm comp).trans h2
  have hkind : k'.kind = .array comp (.array ty) := by rw [he]; exact h4
  have f1 : U.vm.findClass (FieldType.array ty).toString = some comp := by rw [hvm.findClass]; exact h1
  have f2 : U.vm.findClass ("[" ++ (FieldType.array ty).toString) = some c := by rw [hvm.findClass]; exact h5
  unfold Cond.before Cond.holds
  simp only [Cond.value]
  rw [f1, Option.bind_some]
  refine (congrArg (fun o : Option Nat => (o.bind (fun c => (U.vm.classes[c]?).map fun (k : Class) => match k.kind with | .array _ t => decide (t = FieldType.array ty) && decide (U.vm.findClass ("[" ++ (FieldType.array ty).toString) = some c) | _ => false) == some true)) hi).trans ?_
  simp [hk', hkind, f2]
section XMU
variable {p : Program} {l : Launch} {e : Env} {R : Room} {s : State} {m : MethodId} {args : Array Value} {below : List Frame} {meth : Method} {c : Code} {s0 : State} {D : va_G} {Q : State → Prop} {cells slots : Nat} {g : xG} {own : String} {cc : ByteArray} {pc q : Nat} {lv : xL} {st : List Value}
theorem xouter (cA : ClassId) (N h0 : Nat) : ∀ i, i ≤ N → Jvm.Free.Multi.outerC cA N h0 i = arrV cA N (fun j => if j < i then Value.ref (h0 + 1 + j) else .null) := by
  intro i
  induction i with
  | zero =>
    intro _
    show ({ cls := cA, slots := Array.replicate N .null, vm := .none } : Cell) = _
    rw [show (fun j => if j < 0 then Value.ref (h0 + 1 + j) else Value.null) = (fun _ => Value.null) from funext fun j => if_neg (Nat.not_lt_zero j), arrV_new]
  | succ i ih =>
    intro hi
    show (Jvm.Free.Multi.outerC cA N h0 i).setSlot i (.ref (h0 + 1 + i)) = _
    rw [ih (by omega), arrV_store]
    congr 1
    funext j
    unfold updV
    by_cases e : j = i
    · subst e; simp
    · rw [if_neg e]
      dsimp only
      by_cases h : j < i
      · rw [if_pos h, if_pos (by omega)]
      · rw [if_neg h, if_neg (by omega)]
theorem x_multi (hC : xC p l s0 s D m args meth c own cc) {idx N M ki : Nat} {i1 i2 : Int32} {ty : FieldType} (no : xN) (hty : ty = .int ∨ ty = .boolean) (hcl : Cond.classLink own idx ("[" ++ (FieldType.array ty).toString) ∈ lw_all) (hao : Cond.arrayOver (.array ty) ∈ lw_tbl) (hac : Cond.arrayClass ty ∈ lw_all) (d : decode cc pc = .ok (.multianewarray idx 2, 4)) (hq : pc + 4 = q) (hdy : Nat.blt no.1 1000 = true) (hki : Nat.blt ki 1000 = true) (hne : no.1 ≠ ki) (hn : g no = none) (hn2 : ∀ j, j < N → g (ki, j) = none) (h1 : i1 = nI N) (h2 : i2 = nI M) (hN : N < 1000) (hM : M < 1000) (hcells : cells + (1 + N) ≤ R.cells) (hslots : slots + (N + N * M) ≤ R.slots) (k : ∀ a : Nat, XW p l e R s m args below meth c s0 D Q (cells + 1 + N) (slots + N + N * M) (xmu g no ki N M ty a) q lv (.ref a :: st)) : XW p l e R s m args below meth c s0 D Q cells slots g pc lv (.int i2 :: .int i1 :: st) := by
  subst hq; subst h1; subst h2; intro H locs ls hm hI hS hl
  have hdy : no.1 < 1000 := Nat.le_of_ble_eq_true hdy
  have hki : ki < 1000 := Nat.le_of_ble_eq_true hki
  have cN : (nI N).toNatClampNeg = N := nI_clamp (by omega)
  have cM : (nI M).toNatClampNeg = M := nI_clamp (by omega)
  obtain ⟨b0, h0⟩ := hC.ht0
  have hW := hC.warm.alike
  have hover : (Cond.arrayOver (.array ty)).before args s = true := xAO hW (h0 _ hao) args
  have hb : componentBytes ty ≤ 8 := by rcases hty with e | e <;> subst e <;> decide
  have hb2 : M * componentBytes ty ≤ M * 8 := Nat.mul_le_mul_left _ hb
  intro T hT X
  obtain ⟨vm₁, cA, comp, w1, f1, f2, f3, f4, X1, step⟩ := X.multianewarray2F hC.1 hC.2.2.1 (hC.hts _ hcl) hover (hC.hts _ hac) (g := F0 m pc ls (.int (nI M) :: .int (nI N) :: st)) rfl (by rw [hC.2.1]; exact d) (rest := st) rfl (nI_pos (by omega)) (nI_pos (by omega)) (by rw [cN]; omega) (by rw [cM]; omega) (by rw [cM]; omega) (by rcases hty with e | e <;> subst e <;> rfl) (by rcases hty with e | e <;> subst e <;> rfl) (by rw [cN]; exact hcells) (by rw [cN, cM]; exact hslots)
  rw [cN, cM] at X1 step
  generalize hF : Jvm.Free.Multi.fill (T.setVm vm₁) cA comp N M (defaultValue ty) N = F at X1 step
  have hTs : (T.setVm vm₁).heap = H := hT
  have hff := Jvm.Free.Multi.fill_facts (T.setVm vm₁) cA comp N M (defaultValue ty) N
  rw [hF, hTs] at hff
  have hold : ∀ a : Nat, a < H.size → F.heap[a]? = H[a]? := fun a ha => by
    have := Jvm.Free.Multi.fill_old (T.setVm vm₁) cA comp N M (defaultValue ty) (a := a) (by rw [hTs]; exact ha) N
    rw [hF, hTs] at this
    exact this
  have hin : ∀ j, j < N → F.heap[H.size + 1 + j]? = some (arrV comp M (fun _ => .int 0)) := fun j hj => by
    have := Jvm.Free.Multi.fill_inner (T.setVm vm₁) cA comp N M (defaultValue ty) N j hj
    rw [hF, hTs] at this
    rw [this]
    show some ({ cls := comp, slots := Array.replicate M (defaultValue ty), vm := .none } : Cell) = _
    rw [← arrV_new]
    rcases hty with e | e <;> subst e <;> rfl
  have hout : F.heap[H.size]? = some (arrV cA N (fun j => va_rf (some (H.size + 1 + j)))) := by
    rw [hff.2.1, xouter cA N H.size N (Nat.le_refl _)]
    refine congrArg some (xarrV_ext fun j hj => ?_)
    rw [if_pos hj]; rfl
  have hlt : ∀ (n : xN) (b : Nat) (x : xE), g n = some (b, x) → b < H.size := fun n b x hg => by
    rcases hI.2.2.1 n b x hg with ⟨-, -, h⟩ | ⟨-, h, -⟩ | ⟨-, -, h⟩
    · obtain ⟨cell, g1, -⟩ := h.cls hC
      exact (Array.getElem?_eq_some_iff.mp g1).1
    · have := hI.1; omega
    · exact h.lt
  have ar1 : ArrOfT s cA (.array ty) := by
    obtain ⟨-, kA, q1, cp, q2⟩ := (f3 0 0 0).1
    exact fun N z => ⟨(fun k h => by cases h), kA, q1, cp, q2⟩
  have ar2 : ArrOfT s comp ty := by
    obtain ⟨-, kA, q1, cp, q2⟩ := (f4 0 .null).1
    exact fun N z => ⟨(fun k h => by cases h), kA, q1, cp, q2⟩
  have ra2 : va_RA s comp ty := by rcases hty with e | e <;> subst e <;> exact f2
  have hsz := hff.1
  have hbase := hI.1
  have hI2 : xI s0 D (xmu g no ki N M ty H.size) F.heap := by
    refine ⟨by omega, fun q hq => ?_, fun n b x hx => ?_, fun n j b x y dn dj hx hy => ?_⟩
    · rw [hold q (by omega)]; exact hI.2.1 q hq
    · unfold xmu at hx
      split at hx
      · next en =>
        cases hx
        exact Or.inl ⟨by rw [en]; exact hdy, hbase, cA, arrOfT_moved hW.symm ar1, va_RA.moved hW.symm f1, hout.trans (congrArg some (vp_cell_q _ _ _).symm)⟩
      · split at hx
        · next en =>
          cases hx
          exact Or.inl ⟨by rw [en.1]; exact hki, by omega, comp, arrOfT_moved hW.symm ar2, va_RA.moved hW.symm ra2, (hin _ en.2).trans (congrArg some (vp_cell_i _ _ _).symm)⟩
        · have hb1 := hlt n b x hx
          rcases hI.2.2.1 n b x hx with ⟨q1, q2, q3⟩ | q | ⟨q1, q2, q3⟩
          · exact Or.inl ⟨q1, q2, q3.kept (hold b hb1)⟩
          · exact Or.inr (Or.inl q)
          · exact Or.inr (Or.inr ⟨q1, q2, q3.kept (hold b hb1)⟩)
    · obtain ⟨n1, n2⟩ := n
      obtain ⟨j1, j2⟩ := j
      unfold xmu at hx hy
      split at hx
      · next en =>
        cases hx
        split at hy
        · next ej => rw [en, ej]
        · split at hy
          · next ej => injection hy with hy; injection hy with hy; omega
          · have := hlt _ _ _ hy; omega
      · split at hx
        · next en =>
          cases hx
          split at hy
          · next ej => injection hy with hy; injection hy with hy; omega
          · split at hy
            · next ej =>
              injection hy with hy; injection hy with hy
              obtain ⟨e1, e2⟩ := en
              obtain ⟨e3, e4⟩ := ej
              dsimp only at e1 e2 e3 e4 hy
              rw [Prod.mk.injEq]; omega
            · have := hlt _ _ _ hy; dsimp only at this; omega
        · have hb1 := hlt _ _ _ hx
          split at hy
          · injection hy with hy; injection hy with hy; omega
          · split at hy
            · injection hy with hy; injection hy with hy; dsimp only at hy; omega
            · exact hI.2.2.2 _ _ b x y dn dj hx hy
  have hS2 : va_S (fun q => s0.heap.size ≤ q) s.heap F.heap locs := ⟨by have := hS.1; omega, fun q g1 g2 => by
    rw [hold q (by have := hS.1; omega)]
    exact hS.2.1 q g1 g2, hS.2.2⟩
  obtain ⟨t, a1, b1⟩ := k H.size F.heap locs ls hm hI2 hS2 hl F rfl X1
  refine ⟨t, step t ?_, b1⟩
  rw [hT]
  exact a1
end XMU
