/-! X LAYER: an overriding method called by its elder's name; a byte array cloned; addresses that differ -/
section XM2
variable {p : Program} {l : Launch} {e : Env} {R : Room} {s : State} {m : MethodId} {args : Array Value} {below : List Frame} {meth : Method} {c : Code} {s0 : State} {D : va_G} {Q : State → Prop} {cells slots : Nat} {g : xG} {own : String} {cc : ByteArray} {pc q : Nat} {lv : xL} {st : List Value}
def xOv (own : String) (idx : Nat) (C : String) (x y : MethodName) (b : ByteArray) (L : Nat) (r : Option FieldType) (n : Nat) : Prop := GoodIn lw_all (va_wsO own idx C x.cls x y (ws_ y b L r)) ∧ (∃ (b0 : ByteArray) (m0 : Nat) (r0 : Option FieldType), Cond.code x b0 m0 r0 ∈ lw_all) ∧ x.cls ≠ "java/lang/invoke/MethodHandle" ∧ x.cls ≠ "java/lang/invoke/VarHandle" ∧ (parseMethodDescriptor x.desc).map (fun d => d.parameters.length) = some n
theorem lw_O {own C : String} {idx : Nat} {x y : MethodName} {b : ByteArray} {L : Nat} {r : Option FieldType} (h1 : Cond.methodLink own idx x ∈ lw_all) (h2 : Cond.sameMethod x.cls x.cls x.name x.desc ∈ lw_all) (h3 : Cond.instanceMethod x ∈ lw_all) (h4 : Cond.selects C x y ∈ lw_all) (h5 : Cond.instanceMethod y ∈ lw_all) (h6 : Cond.initialized y.cls ∈ lw_all) (h7 : Cond.code y b L r ∈ lw_all) : GoodIn lw_all (va_wsO own idx C x.cls x y (ws_ y b L r)) := by
  refine lw_app ?_ (lw_meth h7)
  intro w hw
  simp only [List.mem_cons, List.not_mem_nil, or_false] at hw
  rcases hw with e | e | e | e | e | e
  · rw [e]; exact h1
  · rw [e]; exact h2
  · rw [e]; exact h3
  · rw [e]; exact h4
  · rw [e]; exact h5
  · rw [e]; exact h6
theorem x_callO (hC : xC p l s0 s D m args meth c own cc) {idx n L a : Nat} {C : String} {x y : MethodName} {b : ByteArray} {r : Option FieldType} {rm : Room} {As rest : List Value} {nn : xN} {ci : Nat} {fs : List Value} {post : Option Value → xG → Prop} (hv : xOv own idx C x y b L r n) (d : decode cc pc = .ok (.invokevirtual idx, 3)) (hq : pc + 3 = q) (hst : st = As.reverse ++ .ref a :: rest) (hM : xMet l s0 D y b L r rm (.ref a :: As) g post) (hg : g nn = some (a, .inr (ci, fs))) (hx : xnm (.inr (ci, fs)) = C) (hn : As.length = n) (hrest : (rest.map fun v => v.category).sum ≤ 8) (hR : rm.frames + 1 ≤ R.frames ∧ 8 + (L + 11) + rm.locals ≤ R.locals) (hcs : cells + rm.cells ≤ R.cells ∧ slots + rm.slots ≤ R.slots)
    (k : ∀ (v : Option Value) (g' : xG), post v g' → XW p l e R s m args below meth c s0 D Q (cells + rm.cells) (slots + rm.slots) g' q lv (v.toList ++ rest)) (hok : Nat.blt ci 24 = true := by rfl) : XW p l e R s m args below meth c s0 D Q cells slots g pc lv st := by
  obtain ⟨h1, ⟨b0, m0, r0, h2⟩, h3⟩ := hv
  refine x_run (a := (Value.ref a :: As).toArray) (fun H locs ls hm hI hl => ?_) hq k
  exact va_runU (owner := x.cls) (hC.fix hm) hM (va_cwO n hC.hts h1 rfl rfl rfl h2 h3 hR) (xpreV hC hI hg hx As hok) rfl hn hl.1 hst (lv_room hrest) d hcs
/-- a byte array is cloned -/
theorem x_cloneB (hC : xC p l s0 s D m args meth c own cc) {idx a0 N : Nat} {n0 : xN} (n1 : xN) {f : Nat → Int32} (hlk : Cond.methodLink own idx ⟨"[B", "clone", "()Ljava/lang/Object;"⟩ ∈ lw_all) (d : decode cc pc = .ok (.invokevirtual idx, 3)) (hq : pc + 3 = q) (hd0 : Nat.blt n0.1 1000 = true) (hg0 : g n0 = some (a0, xAi .byte N f)) (hdy : Nat.blt n1.1 1000 = true) (hn : g n1 = none) (hfit : ∀ t, t < N → fits .byte (.int (f t)) = true) (hfr : 1 ≤ R.frames) (hlo : (st.map fun v => v.category).sum + 14 ≤ R.locals) (hcells : cells + 1 ≤ R.cells) (hslots : slots + N ≤ R.slots) (kk : ∀ a : Nat, XW p l e R s m args below meth c s0 D Q (cells + 1) (slots + N) (xu g n1 (some (a, xAi .byte N f))) q lv (.ref a :: st)) : XW p l e R s m args below meth c s0 D Q cells slots g pc lv (.ref a0 :: st) := by
  subst hq; intro H locs ls hm hI hS hl
  obtain ⟨ha, cA, h1, h2, h3⟩ := hI.at (Nat.le_of_ble_eq_true hd0) hg0
  have h3' : H[a0]? = some (arrV cA N (fun t => Value.int (f t))) := by rw [h3]; exact congrArg some (vp_cell_i _ _ _)
  have hW := hC.warm.alike
  have h2' : s.vm.findClass "[B" = some cA := va_RA.moved hW h2
  obtain ⟨hobj, kA, hkA, comp, hkind⟩ := (arrOfT_moved hW h1) N (fun t => Value.int (f t))
  obtain ⟨c0, cC, f1, f2, f3⟩ := Cond.castable_spec (va_Nw.use (A := args) rfl (xcastable hC q1060))
  have hc0 : c0 = cA := Option.some.inj (f1.symm.trans h2')
  subst hc0
  intro T hT X
  have hfits : ∀ (i : Nat) (v : Value), (arrV c0 N (fun t => Value.int (f t))).slots[i]? = some v → T.fitsSlot (arrV c0 N (fun t => Value.int (f t))).cls .none i v = true := by
    intro i v hv
    have hi : i < N := by
      have := (Array.getElem?_eq_some_iff.mp hv).1
      rwa [arrV_size] at this
    rw [arrV_read _ _ hi] at hv
    cases hv
    obtain ⟨k', hk', he⟩ := X.warmed.alike.2.2 _ _ hkA
    have hkind' : k'.kind = .array comp .byte := by rw [he]; exact hkind
    have hk2 : T.vm.classes[c0]? = some k' := hk'
    show State.fitsSlot T c0 .none i (.int (f i)) = true
    unfold State.fitsSlot State.slotType?
    simp [hk2, hkind']
    exact hfit i hi
  obtain ⟨vm', X', step⟩ := X.cloneArray hC.1 (own := own) (ad := "[B") hC.2.2.1 (hC.hts _ hlk) (hC.hts _ q1056) (hC.hts _ q1057) (hC.hts _ q1058) (hC.hts _ q1059) (a := a0) (cell := arrV c0 N (fun t => Value.int (f t))) (cC := cC) (by rw [hT]; exact h3') hobj (fun h => by cases h) h2' f2 f3 hfits (g := F0 m pc ls (.ref a0 :: st)) rfl (by rw [hm]; exact hl.1) rfl (by rw [hC.2.1]; exact d) hfr (by show 2 * 0 + _ + 14 ≤ _; omega) hcells (by rw [arrV_size]; exact hslots) (Vm.clonesLoader_of_array hkA hkind)
  rw [arrV_size] at X'
  have z1 : (H.push (arrV c0 N (fun t => Value.int (f t)))).size = H.size + 1 := Array.size_push _
  have o1 : ∀ q : Nat, q < H.size → (H.push (arrV c0 N (fun t => Value.int (f t))))[q]? = H[q]? := fun q hq => by rw [Array.getElem?_push, if_neg (Nat.ne_of_lt hq)]
  obtain ⟨t, a1, b1⟩ := kk H.size (H.push (arrV c0 N (fun t => Value.int (f t)))) locs ls hm (hI.new (Nat.le_of_ble_eq_true hdy) hn (Nat.le_refl _) (by omega) o1 ⟨c0, h1, h2, by rw [Array.getElem?_push_size]; exact congrArg some (vp_cell_i _ _ _).symm⟩) (xS.new hS (by omega) o1) hl _ (by rw [← hT]; rfl) X'
  exact ⟨t, step t (by rw [← hT] at a1; exact a1), b1⟩
/-- a cell that was made since the start is none of the start's -/
theorem x_ne {n k : xN} {a b : Nat} {x y : xE} (hn : Nat.blt n.1 1000 = true) (hk : Nat.ble 1000 k.1 = true) (hk2 : Nat.blt k.1 2000 = true) (hg : g n = some (a, x)) (hg2 : g k = some (b, y)) (kk : a ≠ b → XW p l e R s m args below meth c s0 D Q cells slots g pc lv st) : XW p l e R s m args below meth c s0 D Q cells slots g pc lv st := by
  intro H locs ls hm hI hS hl
  have h1 := Nat.le_of_ble_eq_true hn
  have h2 := Nat.le_of_ble_eq_true hk
  have h3 := Nat.le_of_ble_eq_true hk2
  refine kk (fun e => ?_) H locs ls hm hI hS hl
  have q1 := (hI.at h1 hg).1
  rcases hI.2.2.1 k b y hg2 with q | q | q
  · have := q.1; omega
  · have := q.2.1; omega
  · have := q.1; omega
end XM2
theorem xv_J6_549 : xOv RJ6 549 RJ5 ⟨"java/lang/AbstractStringBuilder", "length", "()I"⟩ yJ5_length cJ5_length 1 (some .int) 0 := ⟨lw_O q1268 q1270 q1269 q1271 q1272 q86 q1273, ⟨_, _, _, q1275⟩, by decide +kernel, by decide +kernel, by decide +kernel⟩
