/-! X LAYER: interface calls -/
def xFc (C : String) (x y : MethodName) (b : ByteArray) (L : Nat) (r : Option FieldType) (n : Nat) : Prop := (Cond.selects C x y ∈ lw_all ∧ Cond.instanceMethod y ∈ lw_all ∧ Cond.initialized y.cls ∈ lw_all ∧ Cond.code y b L r ∈ lw_all) ∧ (Cond.declares x ∈ lw_tbl ∧ Cond.interfaceMethod x.cls x.cls x.name x.desc ∈ lw_tbl ∧ Cond.publicMethod y ∈ lw_tbl ∧ Cond.unhidden C x.name x.desc ∈ lw_tbl ∧ Cond.castable C x.cls ∈ lw_tbl) ∧ x.cls ≠ "java/lang/invoke/MethodHandle" ∧ x.cls ≠ "java/lang/invoke/VarHandle" ∧ (parseMethodDescriptor x.desc).map (fun d => d.parameters.length) = some n
section XFa
variable {p : Program} {l : Launch} {e : Env} {R : Room} {s : State} {m : MethodId} {args : Array Value} {below : List Frame} {meth : Method} {c : Code} {s0 : State} {D : va_G} {Q : State → Prop} {cells slots : Nat} {g : xG} {own : String} {cc : ByteArray} {pc q : Nat} {lv : xL} {st : List Value}
theorem x_callF (hC : xC p l s0 s D m args meth c own cc) {idx n L a ci cnt : Nat} {C : String} {x y : MethodName} {b : ByteArray} {r : Option FieldType} {rm : Room} {As rest : List Value} {nn : xN} {fs : List Value} {post : Option Value → xG → Prop} (hl : Cond.methodLink own idx x ∈ lw_all) (hf : xFc C x y b L r n) (d : decode cc pc = .ok (.invokeinterface idx cnt, 5)) (hq : pc + 5 = q) (hst : st = As.reverse ++ .ref a :: rest) (hM : xMet l s0 D y b L r rm (.ref a :: As) g post) (hg : g nn = some (a, .inr (ci, fs))) (hx : xnm (.inr (ci, fs)) = C) (hn : As.length = n) (hrest : (rest.map fun v => v.category).sum ≤ 8) (hR : rm.frames + 1 ≤ R.frames ∧ 8 + (L + 11) + rm.locals ≤ R.locals) (hcs : cells + rm.cells ≤ R.cells ∧ slots + rm.slots ≤ R.slots)
    (k : ∀ (v : Option Value) (g' : xG), post v g' → XW p l e R s m args below meth c s0 D Q (cells + rm.cells) (slots + rm.slots) g' q lv (v.toList ++ rest)) (hok : Nat.blt ci 24 = true := by rfl) : XW p l e R s m args below meth c s0 D Q cells slots g pc lv st := by
  obtain ⟨⟨f1, f2, f3, f4⟩, ⟨t1, t2, t3, t4, t5⟩, hd⟩ := hf
  obtain ⟨b0, h0⟩ := hC.ht0
  have hG : GoodIn lw_all (va_wsF own idx C x y (ws_ y b L r)) := by
    refine lw_app ?_ (lw_meth f4)
    intro w hw
    simp only [List.mem_cons, List.not_mem_nil, or_false] at hw
    rcases hw with e | e | e | e
    · rw [e]; exact hl
    · rw [e]; exact f1
    · rw [e]; exact f2
    · rw [e]; exact f3
  have hFw : va_Fw C x y s := va_Fw.moved ⟨hd.1, hd.2.1⟩ hC.warm.alike (va_Fw.of (h0 _ t1) (h0 _ t2) (h0 _ t3) (h0 _ t4) (h0 _ t5))
  refine x_run5 (a := (Value.ref a :: As).toArray) (fun H locs ls hm hI hl => ?_) hq k
  have hat : ∃ cC, ClassAt s C cC := by
    obtain ⟨r', h1⟩ := hI.ci hg hok
    have e : xnm (.inr (ci, fs)) = r'.1 := by simp only [xnm, h1]
    exact ⟨_, by rw [← hx, e]; exact (hC.kn.1 ci r' h1).2⟩
  obtain ⟨cC, hat⟩ := hat
  exact va_runF hat (hC.fix hm) hM (va_cwF n hC.hts hG rfl rfl rfl hFw hd hR) (xpreV hC hI hg hx As hok) rfl hn hl.1 hst (lv_room hrest) d hcs
end XFa
def yI_of : MethodName := ⟨"KilnBench$Sum", "of", "(LKilnBench$Asking;)J"⟩
theorem xfc_X10_of : xFc RX10 yI_of yX10_of cX10_of 2 (some .long) 1 := ⟨⟨q1458, q1460, q104, q1462⟩, ⟨q1415, q1414, q1461, q1459, q1457⟩, by decide +kernel, by decide +kernel, by decide +kernel⟩
theorem xfc_X11_of : xFc RX11 yI_of yX11_of cX11_of 2 (some .long) 1 := ⟨⟨q1417, q1419, q105, q1421⟩, ⟨q1415, q1414, q1420, q1418, q1416⟩, by decide +kernel, by decide +kernel, by decide +kernel⟩
theorem xfc_X16_of : xFc RX16 yI_of yX16_of cX16_of 2 (some .long) 1 := ⟨⟨q1433, q1435, q110, q1437⟩, ⟨q1415, q1414, q1436, q1434, q1432⟩, by decide +kernel, by decide +kernel, by decide +kernel⟩
theorem xfc_X17_of : xFc RX17 yI_of yX17_of cX17_of 2 (some .long) 1 := ⟨⟨q1450, q1452, q111, q1454⟩, ⟨q1415, q1414, q1453, q1451, q1449⟩, by decide +kernel, by decide +kernel, by decide +kernel⟩
theorem xfc_X18_of : xFc RX18 yI_of yX18_of cX18_of 5 (some .long) 1 := ⟨⟨q1423, q1425, q112, q1427⟩, ⟨q1415, q1414, q1426, q1424, q1422⟩, by decide +kernel, by decide +kernel, by decide +kernel⟩
def yI_holds : MethodName := ⟨"KilnBench$Test", "holds", "(LKilnBench$Asking;)Z"⟩
theorem xfc_X12_holds : xFc RX12 yI_holds yX12_holds cX12_holds 2 (some .boolean) 1 := ⟨⟨q1469, q1471, q106, q1473⟩, ⟨q1441, q1440, q1472, q1470, q925⟩, by decide +kernel, by decide +kernel, by decide +kernel⟩
theorem xfc_X13_holds : xFc RX13 yI_holds yX13_holds cX13_holds 6 (some .boolean) 1 := ⟨⟨q1442, q1444, q107, q1446⟩, ⟨q1441, q1440, q1445, q1443, q910⟩, by decide +kernel, by decide +kernel, by decide +kernel⟩
theorem xfc_X14_holds : xFc RX14 yI_holds yX14_holds cX14_holds 2 (some .boolean) 1 := ⟨⟨q1474, q1476, q108, q1478⟩, ⟨q1441, q1440, q1477, q1475, q927⟩, by decide +kernel, by decide +kernel, by decide +kernel⟩
theorem xfc_X15_holds : xFc RX15 yI_holds yX15_holds cX15_holds 3 (some .boolean) 1 := ⟨⟨q1481, q1483, q109, q1485⟩, ⟨q1441, q1440, q1484, q1482, q933⟩, by decide +kernel, by decide +kernel, by decide +kernel⟩
