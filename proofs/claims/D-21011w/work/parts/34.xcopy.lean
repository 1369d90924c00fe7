/-! System.arraycopy, getClass, class objects, permuted names -/
section XCOPY
variable {p : Program} {l : Launch} {e : Env} {R : Room} {s : State} {m : MethodId} {args : Array Value} {below : List Frame} {meth : Method} {c : Code} {s0 : State} {D : va_G} {Q : State → Prop} {cells slots : Nat} {g : xG} {own : String} {cc : ByteArray} {pc q : Nat} {lv : xL} {st : List Value} {H : Heap} {locs : List Loc} {ls : Array Slot}
theorem xcopy {α : Type} (mk : α → Value) (hC : xC p l s0 s D m args meth c own cc) {idx a0 a N0 N1 i j k : Nat} {cA : ClassId} {cs : Cell} {ty ty' : FieldType} {f h : Nat → α} (hlk : Cond.methodLink own idx arraycopyName ∈ lw_all) (hml : c.maxLocals = ls.size) (hs : H[a0]? = some cs) (hs1 : s.isArrayOf cs ty) (hs2 : cs.vm ≠ .unknown) (hs3 : N0 ≤ cs.slots.size) (hs4 : ∀ t, t < N0 → cs.slots[t]? = some (mk (f t))) (hd : H[a]? = some (arrV cA N1 (fun t => mk (h t)))) (hd1 : s.isArrayOf (arrV cA N1 (fun t => mk (h t))) ty') (hty : ((refKind ty != refKind ty') || (!refKind ty && ty != ty')) = false) (ha : s0.heap.size ≤ a) (hS : va_S (fun q => s0.heap.size ≤ q) s.heap H locs) (h4 : i + k ≤ N0) (h5 : j + k ≤ N1) (hN0 : N0 < 2147483648) (hN1 : N1 < 2147483648)
    (hvals : ∀ (T : State) (comp : ClassId), T.heap = H → (∃ kd : Class, s.vm.classes[cA]? = some kd ∧ kd.kind = .array comp ty') → ∀ vm', s.vm.Alike vm' → ∀ t, t < k → fits ty' (mk (f (i + t))) = true ∧ (T.setVm vm').takes comp (mk (f (i + t))))
    (hfr : 1 ≤ R.frames) (hlo : (st.map fun v => v.category).sum + (nativeFrameWords "java/lang/System" "arraycopy" 5 + 11) ≤ R.locals) (d : decode cc pc = .ok (.invokestatic idx, 3))
    (kk : ∀ (H1 : Heap) (locs1 : List Loc), H1[a]? = some (arrV cA N1 (fun t => mk (va_cpy f h i j k t))) → H1.size = H.size → (∀ q : Nat, q ≠ a → H1[q]? = H[q]?) → va_S (fun q => s0.heap.size ≤ q) s.heap H1 locs1 → W p l e R s m args below meth c H1 locs1 cells slots Q (F0 m (pc + 3) ls st)) : W p l e R s m args below meth c H locs cells slots Q (F0 m pc ls (.int (nI k) :: .int (nI j) :: .ref a :: .int (nI i) :: .ref a0 :: st)) := by
  have ci : (nI i).toNatClampNeg = i := nI_clamp (by omega)
  have cj : (nI j).toNatClampNeg = j := nI_clamp (by omega)
  have ck : (nI k).toNatClampNeg = k := nI_clamp (by omega)
  intro T hT X
  obtain ⟨n0, k0, hk0, cm0, hkk0⟩ := hs1
  obtain ⟨-, k1, hk1, cm1, hkk1⟩ := hd1
  obtain ⟨vm', X', step⟩ := X.arraycopy hC.1 hC.2.2.1 (hC.hts _ hlk) (hC.hts _ q746) (hC.hts _ q745) (hC.hts _ q91) (src := a0) (dst := a) (cs := cs) (cd := arrV cA N1 (fun t => mk (h t))) (srcPos := nI i) (destPos := nI j) (n := nI k) (by rw [hT]; exact hs) (by rw [hT]; exact hd) n0 (fun _ h => by cases h) hs2 (fun h => by cases h) hk0 hk1 hkk0 hkk1 hty (nI_pos (by omega)) (nI_pos (by omega)) (nI_pos (by omega))
    (by rw [nI_toInt (by omega), nI_toInt (by omega)]; omega)
    (by rw [nI_toInt (by omega), nI_toInt (by omega), arrV_size]; omega)
    (fun vm₁ hal t ht => by
      rw [ck] at ht
      have e : cs.slots.getD ((nI i).toNatClampNeg + t) .null = mk (f (i + t)) := by
        rw [ci, Array.getD_eq_getD_getElem?, hs4 _ (by omega)]
        rfl
      rw [e]
      exact hvals T cm1 hT ⟨k1, hk1, hkk1⟩ vm₁ hal t ht)
    (g := F0 m pc ls (.int (nI k) :: .int (nI j) :: .ref a :: .int (nI i) :: .ref a0 :: st)) rfl (by rw [hml]) (rest := st) rfl (by rw [hC.2.1]; exact d) hfr (by show 2 * 0 + _ + _ ≤ _; omega)
  have e1 : copied cs (arrV cA N1 (fun t => mk (h t))) (nI i) (nI j) (nI k) = arrV cA N1 (fun t => mk (va_cpy f h i j k t)) := by
    have := va_copiedX (n1 := N1) (dp := j) mk cs cA f h hs4 h4
    unfold copied
    rw [ci, cj, ck]
    exact this
  rw [e1] at X' step
  have hlt : a < H.size := (Array.getElem?_eq_some_iff.mp hd).1
  obtain ⟨t, a1, b1⟩ := kk (H.setIfInBounds a (arrV cA N1 (fun t => mk (va_cpy f h i j k t)))) _ (by simp [Array.getElem?_setIfInBounds, hlt]) (by simp) (fun q hq => by simp [Array.getElem?_setIfInBounds, Ne.symm hq]) ⟨by simp; exact hS.1, fun q g1 g2 => by
      rw [show (H.setIfInBounds a (arrV cA N1 (fun t => mk (va_cpy f h i j k t))))[q]? = H[q]? by simp [Array.getElem?_setIfInBounds, show a ≠ q from fun e => g2 (by rw [← e]; exact ha)]]
      exact hS.2.1 q g1 g2, fun q hq => by
      rcases List.mem_append.mp hq with h | h
      · exact hS.2.2 q h
      · obtain ⟨z, -, hz⟩ := List.mem_map.mp h
        rw [← hz]
        exact ha⟩ _ (by rw [← hT]; rfl) X'
  exact ⟨t, step t a1, b1⟩
theorem x_copyI (hC : xC p l s0 s D m args meth c own cc) {idx a0 a N0 N1 i j k : Nat} {n0 n1 : xN} {ty : FieldType} {sp dp n : Int32} {f h : Nat → Int32} (hlk : Cond.methodLink own idx arraycopyName ∈ lw_all) (d : decode cc pc = .ok (.invokestatic idx, 3)) (hq : pc + 3 = q) (hty : refKind ty = false) (hg0 : g n0 = some (a0, xAi ty N0 f)) (hdy : Nat.blt n1.1 1000 = true) (hg1 : g n1 = some (a, xAi ty N1 h)) (hi : sp = nI i) (hj : dp = nI j) (hk : n = nI k) (h4 : i + k ≤ N0) (h5 : j + k ≤ N1) (hN0 : N0 < 2147483648) (hN1 : N1 < 2147483648) (hfit : ∀ t, t < k → fits ty (.int (f (i + t))) = true) (hfr : 1 ≤ R.frames) (hlo : (st.map fun v => v.category).sum + (nativeFrameWords "java/lang/System" "arraycopy" 5 + 11) ≤ R.locals) (kk : XW p l e R s m args below meth c s0 D Q cells slots (xu g n1 (some (a, xAi ty N1 (va_cpy f h i j k)))) q lv st) : XW p l e R s m args below meth c s0 D Q cells slots g pc lv (.int n :: .int dp :: .ref a :: .int sp :: .ref a0 :: st) := by
  subst hq; subst hi; subst hj; subst hk; intro H locs ls hm hI hS hl
  have hdy : n1.1 < 1000 := Nat.le_of_ble_eq_true hdy
  obtain ⟨cs, c1, c2, c3, c4, -, c6⟩ := hI.arr hC hg0
  obtain ⟨cA, h1, h2, h3⟩ := (hI.at hdy hg1).2
  have h3' : H[a]? = some (arrV cA N1 (fun t => Value.int (h t))) := by
    rw [h3]; exact congrArg some (vp_cell_i _ _ _)
  refine xcopy (fun z => Value.int z) hC hlk (by rw [hm]; exact hl.1.symm) c1 c2 c3 c4 c6 h3' ((arrOfT_moved hC.warm.alike h1) _ _) (by simp [hty]) (hI.at hdy hg1).1 hS h4 h5 hN0 hN1 (fun T comp hT hc vm' hal t ht => ⟨hfit t ht, trivial⟩) hfr hlo d fun H1 locs1 e1 z oq hS1 => ?_
  exact kk H1 _ ls hm (hI.put hdy hg1 z oq ⟨cA, h1, h2, by rw [e1]; exact congrArg some (vp_cell_i _ _ _).symm⟩) hS1 hl
theorem x_copyR (hC : xC p l s0 s D m args meth c own cc) {idx a0 a N0 N1 i j k : Nat} {n0 n1 : xN} {C C' : String} {sp dp n : Int32} {f h : Nat → Option Nat} (hlk : Cond.methodLink own idx arraycopyName ∈ lw_all) (d : decode cc pc = .ok (.invokestatic idx, 3)) (hq : pc + 3 = q) (hg0 : g n0 = some (a0, xAr (.object C') N0 f)) (hdy : Nat.blt n1.1 1000 = true) (hg1 : g n1 = some (a, xAr (.object C) N1 h)) (hi : sp = nI i) (hj : dp = nI j) (hk : n = nI k) (h4 : i + k ≤ N0) (h5 : j + k ≤ N1) (hN0 : N0 < 2147483648) (hN1 : N1 < 2147483648) (hel : ∀ t, t < k → ∀ y, f (i + t) = some y → ∃ (n2 : xN) (x : xE), Nat.blt n2.1 1000 = true ∧ g n2 = some (y, x) ∧ Cond.castable (xnm x) C ∈ lw_tbl) (hfr : 1 ≤ R.frames) (hlo : (st.map fun v => v.category).sum + (nativeFrameWords "java/lang/System" "arraycopy" 5 + 11) ≤ R.locals) (kk : XW p l e R s m args below meth c s0 D Q cells slots (xu g n1 (some (a, xAr (.object C) N1 (va_cpy f h i j k)))) q lv st) : XW p l e R s m args below meth c s0 D Q cells slots g pc lv (.int n :: .int dp :: .ref a :: .int sp :: .ref a0 :: st) := by
  subst hq; subst hi; subst hj; subst hk; intro H locs ls hm hI hS hl
  have hdy : n1.1 < 1000 := Nat.le_of_ble_eq_true hdy
  obtain ⟨cs, c1, c2, c3, c4, -, c6⟩ := hI.arr hC hg0
  obtain ⟨cA, h1, h2, h3⟩ := (hI.at hdy hg1).2
  have h3' : H[a]? = some (arrV cA N1 (fun t => va_rf (h t))) := by
    rw [h3]; exact congrArg some (vp_cell_q _ _ _)
  refine xcopy (fun z => va_rf z) hC hlk (by rw [hm]; exact hl.1.symm) c1 c2 c3 c4 c6 h3' ((arrOfT_moved hC.warm.alike h1) _ _) rfl (hI.at hdy hg1).1 hS h4 h5 hN0 hN1 (fun T comp hT hc vm' hal t ht => ?_) hfr hlo d fun H1 locs1 e1 z oq hS1 => ?_
  · cases hy : f (i + t) with
    | none => exact ⟨rfl, trivial⟩
    | some y =>
      obtain ⟨n2, x, hn2, hg2, hca⟩ := hel t ht y hy
      have hn2 : n2.1 < 1000 := Nat.le_of_ble_eq_true hn2
      obtain ⟨cellV, g1, g2, g3⟩ := (hI.at hn2 hg2).2.cls hC
      obtain ⟨kC, hkC, -⟩ := Vm.findClass_spec g3
      obtain ⟨kA, comp', k1, k2, k3, -⟩ := h2.moved hC.warm.alike
      obtain ⟨kd, kd1, kd2⟩ := hc
      cases kd1.symm.trans k1
      cases kd2.symm.trans k2
      obtain ⟨kE, hkE, -⟩ := Vm.findClass_spec k3
      have hasg : s.vm.assignable cellV.cls comp = true := by
        obtain ⟨c0, t1, f1, f2, f3⟩ := Cond.castable_spec (va_Nw.use (A := args) rfl (xcastable hC hca))
        cases g3.symm.trans f1
        cases k3.symm.trans f2
        exact f3
      obtain ⟨kC', hkC', -⟩ := hal.2.2 _ _ hkC
      obtain ⟨kE', hkE', -⟩ := hal.2.2 _ _ hkE
      refine ⟨rfl, cellV, (show T.heap[y]? = some cellV by rw [hT]; exact g1), (fun q h => by rw [g2] at h; cases h), ⟨kC', hkC'⟩, ⟨kE', hkE'⟩, ?_⟩
      show vm'.assignable _ _ = true
      rw [hal.assignable]
      exact hasg
  · exact kk H1 _ ls hm (hI.put hdy hg1 z oq ⟨cA, h1, h2, by rw [e1]; exact congrArg some (vp_cell_q _ _ _).symm⟩) hS1 hl
theorem x_ldcM (hC : xC p l s0 s D m args meth c own cc) {idx mi : Nat} {C : String} (hlk : Cond.classLink own idx C ∈ lw_all) (hM : va_Mi C mi s0) (d : decode cc pc = .ok (.ldc idx, 2)) (hq : pc + 2 = q) (k : XW p l e R s m args below meth c s0 D Q cells slots g q lv (.ref mi :: st)) : XW p l e R s m args below meth c s0 D Q cells slots g pc lv st := by
  subst hq; intro H locs ls hm hI hS hl
  exact va_ldcM hC.1 hC.2.1 hC.2.2.1 (hC.hts _ hlk) (hM.moved hC.warm.alike) d (k H locs ls hm hI hS hl)
theorem x_getCA (hC : xC p l s0 s D m args meth c own cc) {idx mi N a : Nat} {n : xN} {f : Nat → Option Nat} (hlk : Cond.methodLink own idx ⟨"java/lang/Object", "getClass", "()Ljava/lang/Class;"⟩ ∈ lw_all) (hM : va_Mi "[Ljava/lang/Object;" mi s0) (d : decode cc pc = .ok (.invokevirtual idx, 3)) (hq : pc + 3 = q) (hdy : Nat.blt n.1 1000 = true) (hg : g n = some (a, xAr (.object "java/lang/Object") N f)) (hfr : 1 ≤ R.frames) (hlo : (st.map fun v => v.category).sum + 14 ≤ R.locals) (k : XW p l e R s m args below meth c s0 D Q cells slots g q lv (.ref mi :: st)) : XW p l e R s m args below meth c s0 D Q cells slots g pc lv (.ref a :: st) := by
  subst hq; intro H locs ls hm hI hS hl
  have hdy : n.1 < 1000 := Nat.le_of_ble_eq_true hdy
  obtain ⟨b0, hb0⟩ := hC.ht0
  obtain ⟨cell, g1, g2, g3⟩ := (hI.at hdy hg).2.cls hC
  exact va_getC hC.1 hC.2.1 (by rw [hm]; exact hl.1.symm) hC.2.2.1 (hC.hts _ hlk) (va_Dc.use ((va_Dc.of (hb0 _ q2197)).moved hC.warm.alike)) (hC.hts _ q2196) (hC.hts _ q707) (hC.hts _ q734) (hM.moved hC.warm.alike) ⟨cell, g1, by rw [g2]; rfl, g3⟩ hfr hlo d (k H locs ls hm hI hS hl)
theorem x0.mi (h : x0 l s0 D) : ∃ mi : Nat, va_Mi "[Ljava/lang/Object;" mi s0 := by
  obtain ⟨b0, -, hf⟩ := h.flat
  exact va_Mi.of (hf (Cond.isRef (.mirror "[Ljava/lang/Object;")) (by decide +kernel))
/-- other names for the same cells -/
theorem x_perm (ρ : xN → xN) (h1 : ∀ n, n.1 < 1000 → (ρ n).1 < 1000) (h2 : ∀ n, 1000 ≤ n.1 → ρ n = n) (h3 : ∀ n k, n.1 < 1000 → k.1 < 1000 → ρ n = ρ k → n = k) {g' : xG} (hg : ∀ n x, g' n = some x → g (ρ n) = some x) (k : XW p l e R s m args below meth c s0 D Q cells slots g' pc lv st) : XW p l e R s m args below meth c s0 D Q cells slots g pc lv st := by
  intro H locs ls hm hI hS hl
  refine k H locs ls hm ⟨hI.1, hI.2.1, fun n a x hn => ?_, fun n j a x y hn hj e1 e2 => ?_⟩ hS hl
  · by_cases hd : n.1 < 1000
    · exact Or.inl ⟨hd, hI.at (h1 n hd) (hg n _ hn)⟩
    · have := hg n _ hn
      rw [h2 n (by omega)] at this
      rcases hI.2.2.1 n a x this with q | q
      · exact absurd q.1 hd
      · exact Or.inr q
  · have dd : ∀ n : xN, xdn n → xdn (ρ n) := fun n hd => by
      rcases hd with q | q
      · exact Or.inl (h1 n q)
      · rw [h2 n (by omega)]; exact Or.inr q
    have e := hI.2.2.2 _ _ a x y (dd n hn) (dd j hj) (hg n _ e1) (hg j _ e2)
    rcases hn with p1 | p1 <;> rcases hj with p2 | p2
    · exact h3 n j p1 p2 e
    · rw [h2 j (by omega)] at e
      have := h1 n p1
      rw [e] at this
      omega
    · rw [h2 n (by omega)] at e
      have := h1 j p2
      rw [← e] at this
      omega
    · rw [h2 n (by omega), h2 j (by omega)] at e
      exact e
end XCOPY
