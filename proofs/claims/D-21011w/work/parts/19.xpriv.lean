set_option maxRecDepth 100000
/-! X LAYER: private methods of AbstractStringBuilder, called on a StringBuilder -/
theorem xsel_of {y z : MethodName} {C : String} {s : State} {args : Array Value} (hyz : z.cls = y.cls) (hy : y.cls ≠ "java/lang/invoke/MethodHandle" ∧ y.cls ≠ "java/lang/invoke/VarHandle") (hz : (Cond.selects C z z).before args s = true) (hpriv : (Cond.privateMethod y).before args s = true) (hinst : (Cond.instanceMethod y).before args s = true) : (Cond.selects C y y).before args s = true := by
  obtain ⟨c2, r2, m2, q1, q2, q3, q4, kP, hkP, hkPi⟩ := Cond.selects_spec hz
  obtain ⟨mk, methM, hnamed, hmethM, -, -⟩ := Cond.instanceMethod_spec hinst
  have hfound : s.methodFound? y.cls y.name y.desc = some mk := State.methodFound?_of_named hnamed hy
  have hsel : selectMethod {} s.vm c2 mk = .method mk := selectMethod_private hmethM (Cond.privateMethod_at hpriv mk methM hnamed hmethM)
  have h1 : s.vm.findClass y.cls = some mk.cls := findClass_of_methodNamed hnamed
  have h2 : s.vm.findClass z.cls = some m2.cls := findClass_of_methodNamed q3
  have h3 : mk.cls = m2.cls := by
    rw [hyz, h1] at h2
    exact Option.some.inj h2
  rw [← h3] at hkP
  simp only [Cond.before, Cond.holds, Cond.value, q1, hfound, hnamed, hsel, hkP]
  simp; exact hkPi
section XPr
variable {p : Program} {l : Launch} {e : Env} {R : Room} {s : State} {m : MethodId} {args : Array Value} {below : List Frame} {meth : Method} {c : Code} {s0 : State} {D : va_G} {Q : State → Prop} {cells slots : Nat} {g : xG} {own : String} {cc : ByteArray} {pc q : Nat} {lv : xL} {st : List Value}
/-- a private method of the abstract builder -/
def xPv (own : String) (idx : Nat) (y : MethodName) (b : ByteArray) (L : Nat) (r : Option FieldType) (n : Nat) : Prop := y.cls = "java/lang/AbstractStringBuilder" ∧ GoodIn lw_all (ws_ y b L r) ∧ Cond.initialized y.cls ∈ lw_all ∧ Cond.methodLink own idx y ∈ lw_all ∧ Cond.instanceMethod y ∈ lw_all ∧ Cond.privateMethod y ∈ lw_tbl ∧ (y.cls ≠ "java/lang/invoke/MethodHandle" ∧ y.cls ≠ "java/lang/invoke/VarHandle" ∧ (parseMethodDescriptor y.desc).map (fun d => d.parameters.length) = some n)
theorem x_callVP (hC : xC p l s0 s D m args meth c own cc) {idx n L a : Nat} {y : MethodName} {b : ByteArray} {r : Option FieldType} {rm : Room} {As rest : List Value} {nn : xN} {ci : Nat} {fs : List Value} {post : Option Value → xG → Prop} (hv : xPv own idx y b L r n) (d : decode cc pc = .ok (.invokevirtual idx, 3)) (hq : pc + 3 = q) (hst : st = As.reverse ++ .ref a :: rest) (hM : xMet l s0 D y b L r rm (.ref a :: As) g post) (hg : g nn = some (a, .inr (ci, fs))) (hx : xnm (.inr (ci, fs)) = "java/lang/StringBuilder") (hn : As.length = n) (hrest : (rest.map fun v => v.category).sum ≤ 8) (hR : rm.frames + 1 ≤ R.frames ∧ 8 + (L + 11) + rm.locals ≤ R.locals) (hcs : cells + rm.cells ≤ R.cells ∧ slots + rm.slots ≤ R.slots)
    (k : ∀ (v : Option Value) (g' : xG), post v g' → XW p l e R s m args below meth c s0 D Q (cells + rm.cells) (slots + rm.slots) g' q lv (v.toList ++ rest)) (hok : Nat.blt ci 24 = true := by rfl) : XW p l e R s m args below meth c s0 D Q cells slots g pc lv st := by
  obtain ⟨h0, h1, h2, h3, h4, h5, h6⟩ := hv
  obtain ⟨b0, hb0⟩ := hC.ht0
  have hsel0 : (Cond.selects "java/lang/StringBuilder" y y).before #[Value.ref b0] s0 = true := xsel_of (z := ⟨"java/lang/AbstractStringBuilder", "isLatin1", "()Z"⟩) h0.symm ⟨h6.1, h6.2.1⟩ (hb0 _ (lw_all_tbl q1065)) (hb0 _ h5) (hb0 _ (lw_all_tbl h4))
  have hsel : (Cond.selects "java/lang/StringBuilder" y y).before args s = true := word_at hC.warm (Or.inl (by first | rfl | simp [Cond.onTables, Cond.keeps, Cond.steady])) hsel0
  refine x_run (a := (Value.ref a :: As).toArray) (fun H locs ls hm hI hl => ?_) hq k
  exact va_runV (hC.fix hm) hM ⟨callB_of n hC.hts h1 rfl rfl rfl (hC.hts _ h2) (hC.hts _ h3) h6 hR, hC.hts _ h4, hsel⟩ (xpreV hC hI hg hx As hok) rfl hn hl.1 hst (lv_room hrest) d hcs
end XPr
theorem xv_J4_100 : xPv RJ4 100 yJ4_ensureCapacityInternal cJ4_ensureCapacityInternal 3 none 1 := ⟨rfl, lw_meth q1045, q85, q1042, q1044, q1043, ⟨by decide +kernel, by decide +kernel, by decide +kernel⟩⟩
theorem xv_J4_104 : xPv RJ4 104 yJ4_newCapacity cJ4_newCapacity 6 (some .int) 1 := ⟨rfl, lw_meth q1049, q85, q1046, q1048, q1047, ⟨by decide +kernel, by decide +kernel, by decide +kernel⟩⟩
theorem xv_J4_83 : xUp RJ4 83 RJ5 yJ4_isLatin1 cJ4_isLatin1 1 (some .boolean) 0 := ⟨lw_U q1062 q1064 q1065 q1063 q85 q1066, ⟨by decide +kernel, by decide +kernel, by decide +kernel⟩⟩
theorem xv_J4_195 : xPv RJ4 195 yJ4_inflate cJ4_inflate 2 none 0 := ⟨rfl, lw_meth q1073, q85, q1070, q1072, q1071, ⟨by decide +kernel, by decide +kernel, by decide +kernel⟩⟩
theorem xv_J4_204 : xPv RJ4 204 yJ4_appendNull cJ4_appendNull 3 (some (.object "java/lang/AbstractStringBuilder")) 0 := ⟨rfl, lw_meth q1190, q85, q1187, q1189, q1188, ⟨by decide +kernel, by decide +kernel, by decide +kernel⟩⟩
theorem xv_J4_208 : xPv RJ4 208 yJ4_putStringAt cJ4_putStringAt 3 none 2 := ⟨rfl, lw_meth q1207, q85, q1204, q1206, q1205, ⟨by decide +kernel, by decide +kernel, by decide +kernel⟩⟩
theorem xv_J4_397 : xPv RJ4 397 yJ4_inflateIfNeededFor cJ4_inflateIfNeededFor 2 none 1 := ⟨rfl, lw_meth q1211, q85, q1208, q1210, q1209, ⟨by decide +kernel, by decide +kernel, by decide +kernel⟩⟩
theorem xv_J5_50 : xSu RJ5 50 yJ4_append cJ4_append 2 (some (.object "java/lang/AbstractStringBuilder")) 1 := ⟨lw_SU q1039 q2155 q1023 q1040 q85 q1041, by decide +kernel, by decide +kernel⟩
theorem xv_J5_29 : xSu RJ5 29 yJ4_append_2 cJ4_append_2 3 (some (.object "java/lang/AbstractStringBuilder")) 1 := ⟨lw_SU q1184 q2159 q1023 q1185 q85 q1186, by decide +kernel, by decide +kernel⟩
theorem xv_J5_53 : xSu RJ5 53 yJ4_append_3 cJ4_append_3 4 (some (.object "java/lang/AbstractStringBuilder")) 1 := ⟨lw_SU q1225 q2163 q1023 q1226 q85 q1227, by decide +kernel, by decide +kernel⟩
theorem xv_J5_343 : xSu RJ5 343 yJ4_length cJ4_length 1 (some .int) 0 := ⟨lw_SU q1274 q1270 q1023 q1269 q85 q1275, by decide +kernel, by decide +kernel⟩
theorem xv_J5_329 : xSu RJ5 329 yJ4_charAt cJ4_charAt 5 (some .char) 1 := ⟨lw_SU q1498 q2164 q1023 q1499 q85 q1500, by decide +kernel, by decide +kernel⟩
theorem xv_J6_552 : xUp RJ6 552 RJ5 yJ4_getValue cJ4_getValue 1 (some (.array .byte)) 0 := ⟨lw_U q1263 q1265 q1266 q1264 q85 q1267, ⟨by decide +kernel, by decide +kernel, by decide +kernel⟩⟩
theorem xv_J6_1047 : xUp RJ6 1047 RJ5 yJ4_isLatin1 cJ4_isLatin1 1 (some .boolean) 0 := ⟨lw_U q1276 q1064 q1065 q1063 q85 q1066, ⟨by decide +kernel, by decide +kernel, by decide +kernel⟩⟩
theorem xz_sioobe {l : Launch} {s0 : State} {D : va_G} (h : x0 l s0 D) : va_Zq "jdk/internal/util/Preconditions" "SIOOBE_FORMATTER" "Ljava/util/function/BiFunction;" (xA0 s0) s0 s0.heap := by
  obtain ⟨b0, h1, h2⟩ := h.flat
  exact va_Zqof (h1 _ q433) (h1 _ (lw_all_tbl q92)) (h2 (Cond.isRef (.static "jdk/internal/util/Preconditions" "SIOOBE_FORMATTER" "Ljava/util/function/BiFunction;")) (by decide +kernel)) xA0_lt
