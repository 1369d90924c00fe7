/-! THE START's String constants and static arrays: names 1001 (Strings), 1002 (their letters), 1003 (arrays) -/
def cT : List (String × Nat × List Nat) := [
  ("java/lang/String", 7, []),
  ("KilnBench$Scan", 294, [99, 104, 105, 108, 100]),
  ("KilnBench$Scan", 269, [99, 108, 97, 121]),
  ("KilnBench$Scan", 273, [103, 114, 105, 116]),
  ("KilnBench$Scan", 298, [107, 105, 108, 110]),
  ("KilnBench$Scan", 283, [114, 111, 111, 109]),
  ("KilnBench$Scan", 302, [116, 101, 109, 112, 101, 114]),
  ("KilnBench$Scan", 235, [105, 102]),
  ("KilnBench$Scan", 151, [110, 111, 116]),
  ("KilnBench$Scan", 172, [97, 108, 108]),
  ("KilnBench$Scan", 149, [97, 110, 100]),
  ("KilnBench$Scan", 130, [111, 114]),
  ("KilnBench$Scan", 240, [109, 105, 110]),
  ("KilnBench$Scan", 242, [109, 97, 120]),
  ("KilnBench$Scan", 310, [99, 114, 97, 99, 107, 115]),
  ("KilnBench$Scan", 318, [115, 116, 105, 99, 107, 115]),
  ("KilnBench$Scan", 322, [98, 117, 114, 110, 115]),
  ("KilnBench$Scan", 326, [102, 117, 101, 108]),
  ("KilnBench$Scan", 330, [108, 111, 97, 100]),
  ("KilnBench$Scan", 334, [119, 105, 110, 100]),
  ("KilnBenchLaw$All", 69, [99, 104, 105, 108, 100, 32, 99]),
  ("KilnBenchLaw$All", 78, [32, 99, 108, 97, 121, 32]),
  ("KilnBenchLaw$All", 83, [32, 103, 114, 105, 116, 32]),
  ("KilnBenchLaw$All", 85, [107, 105, 108, 110, 32, 107]),
  ("KilnBenchLaw$All", 87, [32, 114, 111, 111, 109, 32]),
  ("KilnBenchLaw$All", 89, []),
  ("KilnBenchLaw$All", 91, [116, 101, 109, 112, 101, 114, 32]),
  ("KilnBenchLaw$All", 93, [59]),
  ("KilnBenchLaw$All", 99, [99, 114, 97, 99, 107, 115, 32]),
  ("KilnBenchLaw$All", 101, [115, 116, 105, 99, 107, 115, 32]),
  ("KilnBenchLaw$All", 103, [98, 117, 114, 110, 115, 32]),
  ("KilnBenchLaw$All", 105, [102, 117, 101, 108, 32]),
  ("KilnBenchLaw$All", 107, [59, 32, 108, 111, 97, 100, 32]),
  ("KilnBenchLaw$All", 109, [59, 32, 119, 105, 110, 100, 32]),
  ("KilnBench", 484, [99, 104, 105, 108, 100]),
  ("KilnBench", 486, [99, 108, 97, 121]),
  ("KilnBench", 487, [103, 114, 105, 116]),
  ("KilnBench", 488, [107, 105, 108, 110]),
  ("KilnBench", 489, [114, 111, 111, 109]),
  ("KilnBench", 490, [116, 101, 109, 112, 101, 114]),
  ("KilnBench", 491, [99, 114, 97, 99, 107, 115]),
  ("KilnBench", 492, [115, 116, 105, 99, 107, 115]),
  ("KilnBench", 493, [98, 117, 114, 110, 115]),
  ("KilnBench", 494, [102, 117, 101, 108]),
  ("KilnBench", 495, [108, 111, 97, 100]),
  ("KilnBench", 496, [119, 105, 110, 100]),
  ("KilnBench", 497, [104, 101, 97, 116]),
  ("KilnBench", 498, [119, 101, 101, 107]),
  ("KilnBench", 500, [112, 108, 97, 99, 101]),
  ("KilnBench", 501, [114, 105, 110, 103, 115]),
  ("KilnBench", 503, [110, 101, 97, 114]),
  ("KilnBench", 505, [103, 114, 105, 116, 115]),
  ("KilnBench", 507, [102, 117, 108, 108]),
  ("KilnBench", 508, [105, 102]),
  ("KilnBench", 510, [111, 114]),
  ("KilnBench", 512, [97, 110, 100]),
  ("KilnBench", 514, [110, 111, 116]),
  ("KilnBench", 516, [97, 108, 108]),
  ("KilnBench", 518, [109, 105, 110]),
  ("KilnBench", 519, [109, 97, 120]),
  ("KilnBench$Asked", 21, [104, 101, 97, 116]),
  ("KilnBench$Asked", 23, [119, 101, 101, 107]),
  ("KilnBench$Asked", 25, [99, 108, 97, 121]),
  ("KilnBench$Asked", 27, [103, 114, 105, 116]),
  ("KilnBench$Asked", 29, [112, 108, 97, 99, 101]),
  ("KilnBench$Asked", 31, [114, 105, 110, 103, 115]),
  ("KilnBench$Asked", 33, [110, 101, 97, 114]),
  ("KilnBench$Asked", 35, [103, 114, 105, 116, 115]),
  ("KilnBench$Asked", 37, [114, 111, 111, 109]),
  ("KilnBench$Asked", 39, [102, 117, 108, 108]),
  ("KilnBenchLaw", 373, [99, 108, 97, 121, 43, 104, 101, 97, 116, 42, 50, 45, 103, 114, 105, 116]),
  ("KilnBenchLaw", 375, [104, 101, 97, 116, 42, 112, 108, 97, 99, 101, 43, 99, 108, 97, 121, 47, 50]),
  ("KilnBenchLaw", 377, [105, 102, 40, 104, 101, 97, 116, 62, 49, 48, 44, 99, 108, 97, 121, 45, 104, 101, 97, 116, 44, 104, 101, 97, 116, 42, 53, 41, 43, 119, 101, 101, 107]),
  ("KilnBenchLaw", 379, [40, 99, 108, 97, 121, 42, 51, 43, 104, 101, 97, 116, 42, 55, 41, 37, 49, 48, 48]),
  ("KilnBenchLaw", 385, [114, 105, 110, 103, 115, 62, 55, 48]),
  ("KilnBenchLaw", 387, [104, 101, 97, 116, 62, 49, 50, 32, 97, 110, 100, 32, 103, 114, 105, 116, 60, 52]),
  ("KilnBenchLaw", 389, [114, 105, 110, 103, 115, 37, 55, 61, 48]),
  ("KilnBenchLaw", 391, [112, 108, 97, 99, 101, 61, 48, 32, 97, 110, 100, 32, 104, 101, 97, 116, 42, 50, 62, 99, 108, 97, 121]),
  ("KilnBenchLaw", 396, [110, 101, 97, 114, 60, 53]),
  ("KilnBenchLaw", 398, [110, 101, 97, 114, 60, 104, 101, 97, 116, 32, 97, 110, 100, 32, 103, 114, 105, 116, 115, 62, 54]),
  ("KilnBenchLaw", 400, [110, 101, 97, 114, 37, 51, 61, 49]),
  ("KilnBenchLaw", 402, [103, 114, 105, 116, 115, 60, 56, 32, 111, 114, 32, 110, 101, 97, 114, 61, 48]),
  ("KilnBenchLaw", 407, [104, 101, 97, 116, 42, 114, 111, 111, 109]),
  ("KilnBenchLaw", 409, [104, 101, 97, 116, 43, 102, 117, 108, 108, 42, 51, 43, 119, 101, 101, 107, 37, 50]),
  ("KilnBenchLaw", 411, [114, 111, 111, 109, 42, 50, 45, 104, 101, 97, 116]),
  ("KilnBenchLaw", 413, [105, 102, 40, 104, 101, 97, 116, 62, 57, 44, 52, 48, 44, 53, 41])]
def cRow (i : Nat) : String × Nat × List Nat := cT.getD i ("", 0, [])
def cW (i : Nat) : List Nat := (cRow i).2.2
def cStr (r : String × Nat × List Nat) : Term := Term.string r.1 r.2.1
def cVal (r : String × Nat × List Nat) : Term := Term.field (cStr r) "java/lang/String" "value" "[B"
def cCo (r : String × Nat × List Nat) : Cond := .eq (.field (cStr r) "java/lang/String" "coder" "B") (.int 0)
def cEl (v : Term) (j : Nat) (z : Int32) : Cond := .eq (.elem v (.int (Int32.ofNat j))) (.int z)
def cWs (r : String × Nat × List Nat) : List Cond := [.exactly (cStr r) "java/lang/String", cCo r, .arrayOf (cVal r) .byte, .eq (.length (cVal r)) (.int (Int32.ofNat r.2.2.length))] ++ (List.range r.2.2.length).map (fun j => cEl (cVal r) j (nI (r.2.2.getD j 0)))
/-- the static arrays of texts: class, name, first constant, how many -/
def cA0 : List (String × String × Nat × Nat) := [("KilnBench", "OWN", 34, 26), ("KilnBench$Asked", "WORDS", 60, 10), ("KilnBenchLaw", "TEMPER", 70, 4), ("KilnBenchLaw", "CRACK", 74, 4), ("KilnBenchLaw", "STICK", 78, 4), ("KilnBenchLaw", "BURN", 82, 4)]
def cSt (r : String × String × Nat × Nat) : Term := Term.static r.1 r.2.1 "[Ljava/lang/String;"
def cEs (v : Term) (j : Nat) (z : Term) : Cond := .eq (.elem v (.int (Int32.ofNat j))) z
def cAs (r : String × String × Nat × Nat) : List Cond := [.arrayOf (cSt r) (.object "java/lang/String"), .eq (.length (cSt r)) (.int (Int32.ofNat r.2.2.2))] ++ (List.range r.2.2.2).map (fun j => cEs (cSt r) j (cStr (cRow (r.2.2.1 + j))))
def cDg (n : String) (f : Nat → Nat) : List Cond := [.arrayOf (.static "java/lang/Integer" n "[B") .byte, .eq (.length (.static "java/lang/Integer" n "[B")) (.int (Int32.ofNat 100))] ++ (List.range 100).map (fun j => cEl (.static "java/lang/Integer" n "[B") j (nI (f j)))
def cAll : List Cond := cA0.flatMap cAs ++ (cDg "DigitOnes" (fun j => 48 + j % 10) ++ (cDg "DigitTens" (fun j => 48 + j / 10) ++ cT.flatMap cWs))
set_option maxRecDepth 1000000 in
set_option maxHeartbeats 40000000 in
theorem c_in : ∀ w ∈ cAll, w ∈ flatC (Jvm.Cond.and given_1 narrow_1) := fun _ h => List.Sublist.subset (by decide +kernel) h
/-- the cell of the j-th static array -/
def cAr (A : Nat → Nat) (j : Nat) : xE := match j with
  | 0 => xAr (.object "java/lang/String") 26 (fun k => some (A (34 + k)))
  | 1 => xAr (.object "java/lang/String") 10 (fun k => some (A (60 + k)))
  | 2 => xAr (.object "java/lang/String") 4 (fun k => some (A (70 + k)))
  | 3 => xAr (.object "java/lang/String") 4 (fun k => some (A (74 + k)))
  | 4 => xAr (.object "java/lang/String") 4 (fun k => some (A (78 + k)))
  | 5 => xAr (.object "java/lang/String") 4 (fun k => some (A (82 + k)))
  | 6 => xAi .byte 100 (fun k => nI (48 + k % 10))
  | _ => xAi .byte 100 (fun k => nI (48 + k / 10))
def cCls (j : Nat) : String × String × String := match j with
  | 0 => ("KilnBench", "OWN", "[Ljava/lang/String;")
  | 1 => ("KilnBench$Asked", "WORDS", "[Ljava/lang/String;")
  | 2 => ("KilnBenchLaw", "TEMPER", "[Ljava/lang/String;")
  | 3 => ("KilnBenchLaw", "CRACK", "[Ljava/lang/String;")
  | 4 => ("KilnBenchLaw", "STICK", "[Ljava/lang/String;")
  | 5 => ("KilnBenchLaw", "BURN", "[Ljava/lang/String;")
  | 6 => ("java/lang/Integer", "DigitOnes", "[B")
  | _ => ("java/lang/Integer", "DigitTens", "[B")
/-- what the start says of them -/
def KS0 (s0 : State) (A V B : Nat → Nat) : Prop :=
  (∀ i, i < 86 → (cStr (cRow i)).eval #[] s0 none [] s0 = some (.ref (A i)) ∧ A i < s0.heap.size ∧ V i < s0.heap.size ∧ xats s0 (A i) (xO 23 [.ref (V i), .int 0]) ∧ xats s0 (V i) (xAi .byte (cW i).length (sL (cW i)))) ∧
  ∀ j, j < 8 → va_Z (cCls j).1 (cCls j).2.1 (cCls j).2.2 (.ref (B j)) (xA0 s0) s0 s0.heap ∧ B j < s0.heap.size ∧ xats s0 (B j) (cAr A j)
def cst (A V B : Nat → Nat) (n : xN) : Option (Nat × xE) := match n.1 with
  | 1001 => if n.2 < 86 then some (A n.2, xO 23 [.ref (V n.2), .int 0]) else none
  | 1002 => if n.2 < 86 then some (V n.2, xAi .byte (cW n.2).length (sL (cW n.2))) else none
  | 1003 => if n.2 < 8 then some (B n.2, cAr A n.2) else none
  | _ => none
/-- the named heap has them -/
def KG (g : xG) (A V B : Nat → Nat) : Prop := ∀ n : xN, 1001 ≤ n.1 → n.1 ≤ 1003 → g n = cst A V B n
theorem KG.s {g : xG} {A V B : Nat → Nat} (h : KG g A V B) (i : Nat) (hi : Nat.blt i 86 = true) : g (1001, i) = some (A i, xO 23 [.ref (V i), .int 0]) := by
  rw [h _ (Nat.le_of_ble_eq_true rfl) (Nat.le_of_ble_eq_true rfl)]
  show (if i < 86 then _ else none) = _
  rw [if_pos (show i < 86 from Nat.le_of_ble_eq_true hi)]
theorem KG.v {g : xG} {A V B : Nat → Nat} (h : KG g A V B) (i : Nat) (hi : Nat.blt i 86 = true) : g (1002, i) = some (V i, xAi .byte (cW i).length (sL (cW i))) := by
  rw [h _ (Nat.le_of_ble_eq_true rfl) (Nat.le_of_ble_eq_true rfl)]
  show (if i < 86 then _ else none) = _
  rw [if_pos (show i < 86 from Nat.le_of_ble_eq_true hi)]
theorem KG.a {g : xG} {A V B : Nat → Nat} (h : KG g A V B) (j : Nat) (hj : Nat.blt j 8 = true) : g (1003, j) = some (B j, cAr A j) := by
  rw [h _ (Nat.le_of_ble_eq_true rfl) (Nat.le_of_ble_eq_true rfl)]
  show (if j < 8 then _ else none) = _
  rw [if_pos (show j < 8 from Nat.le_of_ble_eq_true hj)]
theorem KG.up {g : xG} {A V B : Nat → Nat} (h : KG g A V B) {n : xN} (hn : Nat.blt n.1 1000 = true) (x : Option (Nat × xE)) : KG (xu g n x) A V B := fun k h1 h2 => by
  rw [xu_ne (fun q => by rw [q] at h1; have := Nat.le_of_ble_eq_true hn; omega)]
  exact h k h1 h2
theorem KG.ext {g g' : xG} {A V B : Nat → Nat} (h : KG g A V B) (he : ∀ n : xN, 1000 ≤ n.1 → g' n = g n) : KG g' A V B := fun k h1 h2 => by
  rw [he k (by omega)]
  exact h k h1 h2
theorem sA_c (i : Nat) (hi : Nat.blt i 86 = true) : sA (cW i) := sA_of (by
  have : ∀ i, i < 86 → (cW i).all (fun c => Nat.blt c 128) = true := by decide +kernel
  exact this i (Nat.le_of_ble_eq_true hi))
theorem cRow_in {i : Nat} (h : i < 86) : cRow i ∈ cT := by
  unfold cRow
  have : i < cT.length := by rw [show cT.length = 86 from rfl]; exact h
  rw [List.getD_eq_getElem?_getD, List.getElem?_eq_getElem this]
  exact List.getElem_mem this
theorem c_str {l : Launch} {s0 : State} {D : va_G} (h : x0 l s0 D) (i : Nat) (hi : i < 86) : ∃ a v : Nat, (cStr (cRow i)).eval #[] s0 none [] s0 = some (.ref a) ∧ a < s0.heap.size ∧ v < s0.heap.size ∧ xats s0 a (xO 23 [.ref v, .int 0]) ∧ xats s0 v (xAi .byte (cW i).length (sL (cW i))) := by
  obtain ⟨b0, -, h2⟩ := h.flat
  have hm : ∀ w ∈ cWs (cRow i), w.before #[Value.ref b0] s0 = true := fun w hw => h2 w (c_in w (by
    unfold cAll
    refine List.mem_append_right _ (List.mem_append_right _ (List.mem_append_right _ ?_))
    exact List.mem_flatMap.mpr ⟨_, cRow_in hi, hw⟩))
  have hlen : (cRow i).2.2.length < 2 ^ 31 := by
    have : ∀ i, i < 86 → (cRow i).2.2.length < 2 ^ 31 := by decide +kernel
    exact this i hi
  obtain ⟨a, c, cA, kA, q1, q2, q3, q4, q5, q6, -⟩ := Cond.exactly_spec (args := #[Value.ref b0]) (first := s0) (o := none) (s := s0) (idx := []) (t := cStr (cRow i)) (cls := "java/lang/String") (hm _ (by unfold cWs; exact List.mem_append_left _ (by simp)))
  obtain ⟨t, ht, hT⟩ := va_Tof (f := fun j => .int (nI ((cRow i).2.2.getD j 0))) (A := xA0 s0) hlen (hm (.arrayOf (cVal (cRow i)) .byte) (by unfold cWs; exact List.mem_append_left _ (by simp))) (va_eqt (hm (.eq (.length (cVal (cRow i))) (.int (Int32.ofNat (cRow i).2.2.length))) (by unfold cWs; exact List.mem_append_left _ (by simp)))) (fun j hj => va_eqt (hm (cEl (cVal (cRow i)) j (nI ((cRow i).2.2.getD j 0))) (by
    unfold cWs
    exact List.mem_append_right _ (List.mem_map.mpr ⟨j, List.mem_range.mpr hj, rfl⟩)))) xA0_lt
  have hco := vk_OFof (A := xA0 s0) q1 (va_eqt (hm (cCo (cRow i)) (by unfold cWs; exact List.mem_append_left _ (by simp)))) xA0_lt
  have hva := vk_OFof (A := xA0 s0) q1 ht xA0_lt
  have hlt : a < s0.heap.size := (Array.getElem?_eq_some_iff.mp q3).1
  refine ⟨a, t, q1, hlt, Nat.lt_of_not_le hT.out, ⟨_, rfl, ⟨cA, q3, q5, by rw [q6]; exact q2, xA0_lt a hlt⟩, fun k v hk => ?_⟩, hT⟩
  match k, hk with
  | 0, hk => cases hk; exact hva
  | 1, hk => cases hk; exact hco
theorem cA0_in {j : Nat} (h : j < 6) : cA0.getD j ("", "", 0, 0) ∈ cA0 := by
  have : j < cA0.length := by rw [show cA0.length = 6 from rfl]; exact h
  rw [List.getD_eq_getElem?_getD, List.getElem?_eq_getElem this]
  exact List.getElem_mem this

theorem c_arr_0 {l : Launch} {s0 : State} {D : va_G} (h : x0 l s0 D) {A : Nat → Nat} (hA : ∀ i, i < 86 → (cStr (cRow i)).eval #[] s0 none [] s0 = some (.ref (A i))) : ∃ b : Nat, va_Z "KilnBench" "OWN" "[Ljava/lang/String;" (.ref b) (xA0 s0) s0 s0.heap ∧ b < s0.heap.size ∧ xats s0 b (cAr A 0) := by
  obtain ⟨b0, h1, h2⟩ := h.flat
  have hm : ∀ w ∈ cAs ("KilnBench", "OWN", 34, 26), w.before #[Value.ref b0] s0 = true := fun w hw => h2 w (c_in w (by
    unfold cAll
    exact List.mem_append_left _ (List.mem_flatMap.mpr ⟨_, cA0_in (j := 0) (by decide), hw⟩)))
  obtain ⟨t, ht, hT⟩ := va_Tof (N := 26) (f := fun j => .ref (A (34 + j))) (A := xA0 s0) (by decide) (hm (.arrayOf (cSt ("KilnBench", "OWN", 34, 26)) (.object "java/lang/String")) (by unfold cAs; exact List.mem_append_left _ (by simp))) (va_eqt (hm (.eq (.length (cSt ("KilnBench", "OWN", 34, 26))) (.int (Int32.ofNat 26))) (by unfold cAs; exact List.mem_append_left _ (by simp)))) (fun j hj => va_eqv (hm (cEs (cSt ("KilnBench", "OWN", 34, 26)) j (cStr (cRow (34 + j)))) (by
    unfold cAs
    exact List.mem_append_right _ (List.mem_map.mpr ⟨j, List.mem_range.mpr hj, rfl⟩))) (hA (34 + j) (by omega))) xA0_lt
  exact ⟨t, va_Zof (h1 _ q510) (h1 _ (lw_all_tbl q79)) ht xA0_lt, Nat.lt_of_not_le hT.out, hT⟩

theorem c_arr_1 {l : Launch} {s0 : State} {D : va_G} (h : x0 l s0 D) {A : Nat → Nat} (hA : ∀ i, i < 86 → (cStr (cRow i)).eval #[] s0 none [] s0 = some (.ref (A i))) : ∃ b : Nat, va_Z "KilnBench$Asked" "WORDS" "[Ljava/lang/String;" (.ref b) (xA0 s0) s0 s0.heap ∧ b < s0.heap.size ∧ xats s0 b (cAr A 1) := by
  obtain ⟨b0, h1, h2⟩ := h.flat
  have hm : ∀ w ∈ cAs ("KilnBench$Asked", "WORDS", 60, 10), w.before #[Value.ref b0] s0 = true := fun w hw => h2 w (c_in w (by
    unfold cAll
    exact List.mem_append_left _ (List.mem_flatMap.mpr ⟨_, cA0_in (j := 1) (by decide), hw⟩)))
  obtain ⟨t, ht, hT⟩ := va_Tof (N := 10) (f := fun j => .ref (A (60 + j))) (A := xA0 s0) (by decide) (hm (.arrayOf (cSt ("KilnBench$Asked", "WORDS", 60, 10)) (.object "java/lang/String")) (by unfold cAs; exact List.mem_append_left _ (by simp))) (va_eqt (hm (.eq (.length (cSt ("KilnBench$Asked", "WORDS", 60, 10))) (.int (Int32.ofNat 10))) (by unfold cAs; exact List.mem_append_left _ (by simp)))) (fun j hj => va_eqv (hm (cEs (cSt ("KilnBench$Asked", "WORDS", 60, 10)) j (cStr (cRow (60 + j)))) (by
    unfold cAs
    exact List.mem_append_right _ (List.mem_map.mpr ⟨j, List.mem_range.mpr hj, rfl⟩))) (hA (60 + j) (by omega))) xA0_lt
  exact ⟨t, va_Zof (h1 _ q821) (h1 _ (lw_all_tbl q105)) ht xA0_lt, Nat.lt_of_not_le hT.out, hT⟩

theorem c_arr_2 {l : Launch} {s0 : State} {D : va_G} (h : x0 l s0 D) {A : Nat → Nat} (hA : ∀ i, i < 86 → (cStr (cRow i)).eval #[] s0 none [] s0 = some (.ref (A i))) : ∃ b : Nat, va_Z "KilnBenchLaw" "TEMPER" "[Ljava/lang/String;" (.ref b) (xA0 s0) s0 s0.heap ∧ b < s0.heap.size ∧ xats s0 b (cAr A 2) := by
  obtain ⟨b0, h1, h2⟩ := h.flat
  have hm : ∀ w ∈ cAs ("KilnBenchLaw", "TEMPER", 70, 4), w.before #[Value.ref b0] s0 = true := fun w hw => h2 w (c_in w (by
    unfold cAll
    exact List.mem_append_left _ (List.mem_flatMap.mpr ⟨_, cA0_in (j := 2) (by decide), hw⟩)))
  obtain ⟨t, ht, hT⟩ := va_Tof (N := 4) (f := fun j => .ref (A (70 + j))) (A := xA0 s0) (by decide) (hm (.arrayOf (cSt ("KilnBenchLaw", "TEMPER", 70, 4)) (.object "java/lang/String")) (by unfold cAs; exact List.mem_append_left _ (by simp))) (va_eqt (hm (.eq (.length (cSt ("KilnBenchLaw", "TEMPER", 70, 4))) (.int (Int32.ofNat 4))) (by unfold cAs; exact List.mem_append_left _ (by simp)))) (fun j hj => va_eqv (hm (cEs (cSt ("KilnBenchLaw", "TEMPER", 70, 4)) j (cStr (cRow (70 + j)))) (by
    unfold cAs
    exact List.mem_append_right _ (List.mem_map.mpr ⟨j, List.mem_range.mpr hj, rfl⟩))) (hA (70 + j) (by omega))) xA0_lt
  exact ⟨t, va_Zof (h1 _ q1118) (h1 _ (lw_all_tbl q76)) ht xA0_lt, Nat.lt_of_not_le hT.out, hT⟩

theorem c_arr_3 {l : Launch} {s0 : State} {D : va_G} (h : x0 l s0 D) {A : Nat → Nat} (hA : ∀ i, i < 86 → (cStr (cRow i)).eval #[] s0 none [] s0 = some (.ref (A i))) : ∃ b : Nat, va_Z "KilnBenchLaw" "CRACK" "[Ljava/lang/String;" (.ref b) (xA0 s0) s0 s0.heap ∧ b < s0.heap.size ∧ xats s0 b (cAr A 3) := by
  obtain ⟨b0, h1, h2⟩ := h.flat
  have hm : ∀ w ∈ cAs ("KilnBenchLaw", "CRACK", 74, 4), w.before #[Value.ref b0] s0 = true := fun w hw => h2 w (c_in w (by
    unfold cAll
    exact List.mem_append_left _ (List.mem_flatMap.mpr ⟨_, cA0_in (j := 3) (by decide), hw⟩)))
  obtain ⟨t, ht, hT⟩ := va_Tof (N := 4) (f := fun j => .ref (A (74 + j))) (A := xA0 s0) (by decide) (hm (.arrayOf (cSt ("KilnBenchLaw", "CRACK", 74, 4)) (.object "java/lang/String")) (by unfold cAs; exact List.mem_append_left _ (by simp))) (va_eqt (hm (.eq (.length (cSt ("KilnBenchLaw", "CRACK", 74, 4))) (.int (Int32.ofNat 4))) (by unfold cAs; exact List.mem_append_left _ (by simp)))) (fun j hj => va_eqv (hm (cEs (cSt ("KilnBenchLaw", "CRACK", 74, 4)) j (cStr (cRow (74 + j)))) (by
    unfold cAs
    exact List.mem_append_right _ (List.mem_map.mpr ⟨j, List.mem_range.mpr hj, rfl⟩))) (hA (74 + j) (by omega))) xA0_lt
  exact ⟨t, va_Zof (h1 _ q1120) (h1 _ (lw_all_tbl q76)) ht xA0_lt, Nat.lt_of_not_le hT.out, hT⟩

theorem c_arr_4 {l : Launch} {s0 : State} {D : va_G} (h : x0 l s0 D) {A : Nat → Nat} (hA : ∀ i, i < 86 → (cStr (cRow i)).eval #[] s0 none [] s0 = some (.ref (A i))) : ∃ b : Nat, va_Z "KilnBenchLaw" "STICK" "[Ljava/lang/String;" (.ref b) (xA0 s0) s0 s0.heap ∧ b < s0.heap.size ∧ xats s0 b (cAr A 4) := by
  obtain ⟨b0, h1, h2⟩ := h.flat
  have hm : ∀ w ∈ cAs ("KilnBenchLaw", "STICK", 78, 4), w.before #[Value.ref b0] s0 = true := fun w hw => h2 w (c_in w (by
    unfold cAll
    exact List.mem_append_left _ (List.mem_flatMap.mpr ⟨_, cA0_in (j := 4) (by decide), hw⟩)))
  obtain ⟨t, ht, hT⟩ := va_Tof (N := 4) (f := fun j => .ref (A (78 + j))) (A := xA0 s0) (by decide) (hm (.arrayOf (cSt ("KilnBenchLaw", "STICK", 78, 4)) (.object "java/lang/String")) (by unfold cAs; exact List.mem_append_left _ (by simp))) (va_eqt (hm (.eq (.length (cSt ("KilnBenchLaw", "STICK", 78, 4))) (.int (Int32.ofNat 4))) (by unfold cAs; exact List.mem_append_left _ (by simp)))) (fun j hj => va_eqv (hm (cEs (cSt ("KilnBenchLaw", "STICK", 78, 4)) j (cStr (cRow (78 + j)))) (by
    unfold cAs
    exact List.mem_append_right _ (List.mem_map.mpr ⟨j, List.mem_range.mpr hj, rfl⟩))) (hA (78 + j) (by omega))) xA0_lt
  exact ⟨t, va_Zof (h1 _ q1122) (h1 _ (lw_all_tbl q76)) ht xA0_lt, Nat.lt_of_not_le hT.out, hT⟩

theorem c_arr_5 {l : Launch} {s0 : State} {D : va_G} (h : x0 l s0 D) {A : Nat → Nat} (hA : ∀ i, i < 86 → (cStr (cRow i)).eval #[] s0 none [] s0 = some (.ref (A i))) : ∃ b : Nat, va_Z "KilnBenchLaw" "BURN" "[Ljava/lang/String;" (.ref b) (xA0 s0) s0 s0.heap ∧ b < s0.heap.size ∧ xats s0 b (cAr A 5) := by
  obtain ⟨b0, h1, h2⟩ := h.flat
  have hm : ∀ w ∈ cAs ("KilnBenchLaw", "BURN", 82, 4), w.before #[Value.ref b0] s0 = true := fun w hw => h2 w (c_in w (by
    unfold cAll
    exact List.mem_append_left _ (List.mem_flatMap.mpr ⟨_, cA0_in (j := 5) (by decide), hw⟩)))
  obtain ⟨t, ht, hT⟩ := va_Tof (N := 4) (f := fun j => .ref (A (82 + j))) (A := xA0 s0) (by decide) (hm (.arrayOf (cSt ("KilnBenchLaw", "BURN", 82, 4)) (.object "java/lang/String")) (by unfold cAs; exact List.mem_append_left _ (by simp))) (va_eqt (hm (.eq (.length (cSt ("KilnBenchLaw", "BURN", 82, 4))) (.int (Int32.ofNat 4))) (by unfold cAs; exact List.mem_append_left _ (by simp)))) (fun j hj => va_eqv (hm (cEs (cSt ("KilnBenchLaw", "BURN", 82, 4)) j (cStr (cRow (82 + j)))) (by
    unfold cAs
    exact List.mem_append_right _ (List.mem_map.mpr ⟨j, List.mem_range.mpr hj, rfl⟩))) (hA (82 + j) (by omega))) xA0_lt
  exact ⟨t, va_Zof (h1 _ q1124) (h1 _ (lw_all_tbl q76)) ht xA0_lt, Nat.lt_of_not_le hT.out, hT⟩

theorem c_arr_6 {l : Launch} {s0 : State} {D : va_G} (h : x0 l s0 D) (A : Nat → Nat) : ∃ b : Nat, va_Z "java/lang/Integer" "DigitOnes" "[B" (.ref b) (xA0 s0) s0 s0.heap ∧ b < s0.heap.size ∧ xats s0 b (cAr A 6) := by
  obtain ⟨b0, h1, h2⟩ := h.flat
  have hm : ∀ w ∈ cDg "DigitOnes" (fun j => 48 + j % 10), w.before #[Value.ref b0] s0 = true := fun w hw => h2 w (c_in w (by
    unfold cAll
    exact List.mem_append_right _ (List.mem_append_left _ hw)))
  obtain ⟨t, ht, hT⟩ := va_Tof (N := 100) (f := fun j => .int (nI (48 + j % 10))) (A := xA0 s0) (by decide) (hm (.arrayOf (.static "java/lang/Integer" "DigitOnes" "[B") .byte) (by unfold cDg; exact List.mem_append_left _ (by simp))) (va_eqt (hm (.eq (.length (.static "java/lang/Integer" "DigitOnes" "[B")) (.int (Int32.ofNat 100))) (by unfold cDg; exact List.mem_append_left _ (by simp)))) (fun j hj => va_eqt (hm (cEl (.static "java/lang/Integer" "DigitOnes" "[B") j (nI (48 + j % 10))) (by
    unfold cDg
    exact List.mem_append_right _ (List.mem_map.mpr ⟨j, List.mem_range.mpr hj, rfl⟩)))) xA0_lt
  exact ⟨t, va_Zof (h1 _ q1235) (h1 _ (lw_all_tbl q95)) ht xA0_lt, Nat.lt_of_not_le hT.out, hT⟩

theorem c_arr_7 {l : Launch} {s0 : State} {D : va_G} (h : x0 l s0 D) (A : Nat → Nat) : ∃ b : Nat, va_Z "java/lang/Integer" "DigitTens" "[B" (.ref b) (xA0 s0) s0 s0.heap ∧ b < s0.heap.size ∧ xats s0 b (cAr A 7) := by
  obtain ⟨b0, h1, h2⟩ := h.flat
  have hm : ∀ w ∈ cDg "DigitTens" (fun j => 48 + j / 10), w.before #[Value.ref b0] s0 = true := fun w hw => h2 w (c_in w (by
    unfold cAll
    exact List.mem_append_right _ (List.mem_append_right _ (List.mem_append_left _ hw))))
  obtain ⟨t, ht, hT⟩ := va_Tof (N := 100) (f := fun j => .int (nI (48 + j / 10))) (A := xA0 s0) (by decide) (hm (.arrayOf (.static "java/lang/Integer" "DigitTens" "[B") .byte) (by unfold cDg; exact List.mem_append_left _ (by simp))) (va_eqt (hm (.eq (.length (.static "java/lang/Integer" "DigitTens" "[B")) (.int (Int32.ofNat 100))) (by unfold cDg; exact List.mem_append_left _ (by simp)))) (fun j hj => va_eqt (hm (cEl (.static "java/lang/Integer" "DigitTens" "[B") j (nI (48 + j / 10))) (by
    unfold cDg
    exact List.mem_append_right _ (List.mem_map.mpr ⟨j, List.mem_range.mpr hj, rfl⟩)))) xA0_lt
  exact ⟨t, va_Zof (h1 _ q1237) (h1 _ (lw_all_tbl q95)) ht xA0_lt, Nat.lt_of_not_le hT.out, hT⟩

/-- there are such addresses -/
theorem c_ex {l : Launch} {s0 : State} {D : va_G} (h : x0 l s0 D) : ∃ A V B : Nat → Nat, KS0 s0 A V B := by
  have h1 : ∀ i : Nat, ∃ q : Nat × Nat, i < 86 → (cStr (cRow i)).eval #[] s0 none [] s0 = some (.ref q.1) ∧ q.1 < s0.heap.size ∧ q.2 < s0.heap.size ∧ xats s0 q.1 (xO 23 [.ref q.2, .int 0]) ∧ xats s0 q.2 (xAi .byte (cW i).length (sL (cW i))) := by
    intro i
    by_cases hi : i < 86
    · obtain ⟨a, v, q⟩ := c_str h i hi
      exact ⟨(a, v), fun _ => q⟩
    · exact ⟨(0, 0), fun q => absurd q hi⟩
  obtain ⟨ad, had⟩ := Classical.axiomOfChoice h1
  have hA : ∀ i, i < 86 → (cStr (cRow i)).eval #[] s0 none [] s0 = some (.ref ((fun i => (ad i).1) i)) := fun i hi => (had i hi).1
  obtain ⟨b0, e0⟩ := c_arr_0 h hA
  obtain ⟨b1, e1⟩ := c_arr_1 h hA
  obtain ⟨b2, e2⟩ := c_arr_2 h hA
  obtain ⟨b3, e3⟩ := c_arr_3 h hA
  obtain ⟨b4, e4⟩ := c_arr_4 h hA
  obtain ⟨b5, e5⟩ := c_arr_5 h hA
  obtain ⟨b6, e6⟩ := c_arr_6 h (fun i => (ad i).1)
  obtain ⟨b7, e7⟩ := c_arr_7 h (fun i => (ad i).1)
  refine ⟨fun i => (ad i).1, fun i => (ad i).2, fun j => match j with
    | 0 => b0
    | 1 => b1
    | 2 => b2
    | 3 => b3
    | 4 => b4
    | 5 => b5
    | 6 => b6
    | _ => b7, had, fun j hj => ?_⟩
  match j, hj with
  | 0, _ => exact e0
  | 1, _ => exact e1
  | 2, _ => exact e2
  | 3, _ => exact e3
  | 4, _ => exact e4
  | 5, _ => exact e5
  | 6, _ => exact e6
  | 7, _ => exact e7
  | j + 8, h => exact absurd h (by omega)

theorem xk_0 {l : Launch} {s0 : State} {D : va_G} {A V B : Nat → Nat} (h : x0 l s0 D) (hS : KS0 s0 A V B) : vk_R "java/lang/String" 7 "" (A 0) s0 := by
  obtain ⟨b0, h1, -⟩ := h.flat
  exact vk_R.of (A := #[]) (h1 _ q441) ((hS.1 0 (by decide)).1)
theorem xk_1 {l : Launch} {s0 : State} {D : va_G} {A V B : Nat → Nat} (h : x0 l s0 D) (hS : KS0 s0 A V B) : vk_R "KilnBench$Scan" 294 "child" (A 1) s0 := by
  obtain ⟨b0, h1, -⟩ := h.flat
  exact vk_R.of (A := #[]) (h1 _ q555) ((hS.1 1 (by decide)).1)
theorem xk_2 {l : Launch} {s0 : State} {D : va_G} {A V B : Nat → Nat} (h : x0 l s0 D) (hS : KS0 s0 A V B) : vk_R "KilnBench$Scan" 269 "clay" (A 2) s0 := by
  obtain ⟨b0, h1, -⟩ := h.flat
  exact vk_R.of (A := #[]) (h1 _ q664) ((hS.1 2 (by decide)).1)
theorem xk_3 {l : Launch} {s0 : State} {D : va_G} {A V B : Nat → Nat} (h : x0 l s0 D) (hS : KS0 s0 A V B) : vk_R "KilnBench$Scan" 273 "grit" (A 3) s0 := by
  obtain ⟨b0, h1, -⟩ := h.flat
  exact vk_R.of (A := #[]) (h1 _ q676) ((hS.1 3 (by decide)).1)
theorem xk_4 {l : Launch} {s0 : State} {D : va_G} {A V B : Nat → Nat} (h : x0 l s0 D) (hS : KS0 s0 A V B) : vk_R "KilnBench$Scan" 298 "kiln" (A 4) s0 := by
  obtain ⟨b0, h1, -⟩ := h.flat
  exact vk_R.of (A := #[]) (h1 _ q749) ((hS.1 4 (by decide)).1)
theorem xk_5 {l : Launch} {s0 : State} {D : va_G} {A V B : Nat → Nat} (h : x0 l s0 D) (hS : KS0 s0 A V B) : vk_R "KilnBench$Scan" 283 "room" (A 5) s0 := by
  obtain ⟨b0, h1, -⟩ := h.flat
  exact vk_R.of (A := #[]) (h1 _ q784) ((hS.1 5 (by decide)).1)
theorem xk_6 {l : Launch} {s0 : State} {D : va_G} {A V B : Nat → Nat} (h : x0 l s0 D) (hS : KS0 s0 A V B) : vk_R "KilnBench$Scan" 302 "temper" (A 6) s0 := by
  obtain ⟨b0, h1, -⟩ := h.flat
  exact vk_R.of (A := #[]) (h1 _ q785) ((hS.1 6 (by decide)).1)
theorem xk_7 {l : Launch} {s0 : State} {D : va_G} {A V B : Nat → Nat} (h : x0 l s0 D) (hS : KS0 s0 A V B) : vk_R "KilnBench$Scan" 235 "if" (A 7) s0 := by
  obtain ⟨b0, h1, -⟩ := h.flat
  exact vk_R.of (A := #[]) (h1 _ q832) ((hS.1 7 (by decide)).1)
theorem xk_8 {l : Launch} {s0 : State} {D : va_G} {A V B : Nat → Nat} (h : x0 l s0 D) (hS : KS0 s0 A V B) : vk_R "KilnBench$Scan" 151 "not" (A 8) s0 := by
  obtain ⟨b0, h1, -⟩ := h.flat
  exact vk_R.of (A := #[]) (h1 _ q857) ((hS.1 8 (by decide)).1)
theorem xk_9 {l : Launch} {s0 : State} {D : va_G} {A V B : Nat → Nat} (h : x0 l s0 D) (hS : KS0 s0 A V B) : vk_R "KilnBench$Scan" 172 "all" (A 9) s0 := by
  obtain ⟨b0, h1, -⟩ := h.flat
  exact vk_R.of (A := #[]) (h1 _ q878) ((hS.1 9 (by decide)).1)
theorem xk_10 {l : Launch} {s0 : State} {D : va_G} {A V B : Nat → Nat} (h : x0 l s0 D) (hS : KS0 s0 A V B) : vk_R "KilnBench$Scan" 149 "and" (A 10) s0 := by
  obtain ⟨b0, h1, -⟩ := h.flat
  exact vk_R.of (A := #[]) (h1 _ q935) ((hS.1 10 (by decide)).1)
theorem xk_11 {l : Launch} {s0 : State} {D : va_G} {A V B : Nat → Nat} (h : x0 l s0 D) (hS : KS0 s0 A V B) : vk_R "KilnBench$Scan" 130 "or" (A 11) s0 := by
  obtain ⟨b0, h1, -⟩ := h.flat
  exact vk_R.of (A := #[]) (h1 _ q953) ((hS.1 11 (by decide)).1)
theorem xk_12 {l : Launch} {s0 : State} {D : va_G} {A V B : Nat → Nat} (h : x0 l s0 D) (hS : KS0 s0 A V B) : vk_R "KilnBench$Scan" 240 "min" (A 12) s0 := by
  obtain ⟨b0, h1, -⟩ := h.flat
  exact vk_R.of (A := #[]) (h1 _ q970) ((hS.1 12 (by decide)).1)
theorem xk_13 {l : Launch} {s0 : State} {D : va_G} {A V B : Nat → Nat} (h : x0 l s0 D) (hS : KS0 s0 A V B) : vk_R "KilnBench$Scan" 242 "max" (A 13) s0 := by
  obtain ⟨b0, h1, -⟩ := h.flat
  exact vk_R.of (A := #[]) (h1 _ q971) ((hS.1 13 (by decide)).1)
theorem xk_14 {l : Launch} {s0 : State} {D : va_G} {A V B : Nat → Nat} (h : x0 l s0 D) (hS : KS0 s0 A V B) : vk_R "KilnBench$Scan" 310 "cracks" (A 14) s0 := by
  obtain ⟨b0, h1, -⟩ := h.flat
  exact vk_R.of (A := #[]) (h1 _ q1084) ((hS.1 14 (by decide)).1)
theorem xk_15 {l : Launch} {s0 : State} {D : va_G} {A V B : Nat → Nat} (h : x0 l s0 D) (hS : KS0 s0 A V B) : vk_R "KilnBench$Scan" 318 "sticks" (A 15) s0 := by
  obtain ⟨b0, h1, -⟩ := h.flat
  exact vk_R.of (A := #[]) (h1 _ q1089) ((hS.1 15 (by decide)).1)
theorem xk_16 {l : Launch} {s0 : State} {D : va_G} {A V B : Nat → Nat} (h : x0 l s0 D) (hS : KS0 s0 A V B) : vk_R "KilnBench$Scan" 322 "burns" (A 16) s0 := by
  obtain ⟨b0, h1, -⟩ := h.flat
  exact vk_R.of (A := #[]) (h1 _ q1090) ((hS.1 16 (by decide)).1)
theorem xk_17 {l : Launch} {s0 : State} {D : va_G} {A V B : Nat → Nat} (h : x0 l s0 D) (hS : KS0 s0 A V B) : vk_R "KilnBench$Scan" 326 "fuel" (A 17) s0 := by
  obtain ⟨b0, h1, -⟩ := h.flat
  exact vk_R.of (A := #[]) (h1 _ q1091) ((hS.1 17 (by decide)).1)
theorem xk_18 {l : Launch} {s0 : State} {D : va_G} {A V B : Nat → Nat} (h : x0 l s0 D) (hS : KS0 s0 A V B) : vk_R "KilnBench$Scan" 330 "load" (A 18) s0 := by
  obtain ⟨b0, h1, -⟩ := h.flat
  exact vk_R.of (A := #[]) (h1 _ q1092) ((hS.1 18 (by decide)).1)
theorem xk_19 {l : Launch} {s0 : State} {D : va_G} {A V B : Nat → Nat} (h : x0 l s0 D) (hS : KS0 s0 A V B) : vk_R "KilnBench$Scan" 334 "wind" (A 19) s0 := by
  obtain ⟨b0, h1, -⟩ := h.flat
  exact vk_R.of (A := #[]) (h1 _ q1093) ((hS.1 19 (by decide)).1)
theorem xk_20 {l : Launch} {s0 : State} {D : va_G} {A V B : Nat → Nat} (h : x0 l s0 D) (hS : KS0 s0 A V B) : vk_R "KilnBenchLaw$All" 69 "child c" (A 20) s0 := by
  obtain ⟨b0, h1, -⟩ := h.flat
  exact vk_R.of (A := #[]) (h1 _ q1179) ((hS.1 20 (by decide)).1)
theorem xk_21 {l : Launch} {s0 : State} {D : va_G} {A V B : Nat → Nat} (h : x0 l s0 D) (hS : KS0 s0 A V B) : vk_R "KilnBenchLaw$All" 78 " clay " (A 21) s0 := by
  obtain ⟨b0, h1, -⟩ := h.flat
  exact vk_R.of (A := #[]) (h1 _ q1220) ((hS.1 21 (by decide)).1)
theorem xk_22 {l : Launch} {s0 : State} {D : va_G} {A V B : Nat → Nat} (h : x0 l s0 D) (hS : KS0 s0 A V B) : vk_R "KilnBenchLaw$All" 83 " grit " (A 22) s0 := by
  obtain ⟨b0, h1, -⟩ := h.flat
  exact vk_R.of (A := #[]) (h1 _ q1246) ((hS.1 22 (by decide)).1)
theorem xk_23 {l : Launch} {s0 : State} {D : va_G} {A V B : Nat → Nat} (h : x0 l s0 D) (hS : KS0 s0 A V B) : vk_R "KilnBenchLaw$All" 85 "kiln k" (A 23) s0 := by
  obtain ⟨b0, h1, -⟩ := h.flat
  exact vk_R.of (A := #[]) (h1 _ q1247) ((hS.1 23 (by decide)).1)
theorem xk_24 {l : Launch} {s0 : State} {D : va_G} {A V B : Nat → Nat} (h : x0 l s0 D) (hS : KS0 s0 A V B) : vk_R "KilnBenchLaw$All" 87 " room " (A 24) s0 := by
  obtain ⟨b0, h1, -⟩ := h.flat
  exact vk_R.of (A := #[]) (h1 _ q1248) ((hS.1 24 (by decide)).1)
theorem xk_25 {l : Launch} {s0 : State} {D : va_G} {A V B : Nat → Nat} (h : x0 l s0 D) (hS : KS0 s0 A V B) : vk_R "KilnBenchLaw$All" 89 "" (A 25) s0 := by
  obtain ⟨b0, h1, -⟩ := h.flat
  exact vk_R.of (A := #[]) (h1 _ q1249) ((hS.1 25 (by decide)).1)
theorem xk_26 {l : Launch} {s0 : State} {D : va_G} {A V B : Nat → Nat} (h : x0 l s0 D) (hS : KS0 s0 A V B) : vk_R "KilnBenchLaw$All" 91 "temper " (A 26) s0 := by
  obtain ⟨b0, h1, -⟩ := h.flat
  exact vk_R.of (A := #[]) (h1 _ q1250) ((hS.1 26 (by decide)).1)
theorem xk_27 {l : Launch} {s0 : State} {D : va_G} {A V B : Nat → Nat} (h : x0 l s0 D) (hS : KS0 s0 A V B) : vk_R "KilnBenchLaw$All" 93 ";" (A 27) s0 := by
  obtain ⟨b0, h1, -⟩ := h.flat
  exact vk_R.of (A := #[]) (h1 _ q1251) ((hS.1 27 (by decide)).1)
theorem xk_28 {l : Launch} {s0 : State} {D : va_G} {A V B : Nat → Nat} (h : x0 l s0 D) (hS : KS0 s0 A V B) : vk_R "KilnBenchLaw$All" 99 "cracks " (A 28) s0 := by
  obtain ⟨b0, h1, -⟩ := h.flat
  exact vk_R.of (A := #[]) (h1 _ q1290) ((hS.1 28 (by decide)).1)
theorem xk_29 {l : Launch} {s0 : State} {D : va_G} {A V B : Nat → Nat} (h : x0 l s0 D) (hS : KS0 s0 A V B) : vk_R "KilnBenchLaw$All" 101 "sticks " (A 29) s0 := by
  obtain ⟨b0, h1, -⟩ := h.flat
  exact vk_R.of (A := #[]) (h1 _ q1291) ((hS.1 29 (by decide)).1)
theorem xk_30 {l : Launch} {s0 : State} {D : va_G} {A V B : Nat → Nat} (h : x0 l s0 D) (hS : KS0 s0 A V B) : vk_R "KilnBenchLaw$All" 103 "burns " (A 30) s0 := by
  obtain ⟨b0, h1, -⟩ := h.flat
  exact vk_R.of (A := #[]) (h1 _ q1292) ((hS.1 30 (by decide)).1)
theorem xk_31 {l : Launch} {s0 : State} {D : va_G} {A V B : Nat → Nat} (h : x0 l s0 D) (hS : KS0 s0 A V B) : vk_R "KilnBenchLaw$All" 105 "fuel " (A 31) s0 := by
  obtain ⟨b0, h1, -⟩ := h.flat
  exact vk_R.of (A := #[]) (h1 _ q1293) ((hS.1 31 (by decide)).1)
theorem xk_32 {l : Launch} {s0 : State} {D : va_G} {A V B : Nat → Nat} (h : x0 l s0 D) (hS : KS0 s0 A V B) : vk_R "KilnBenchLaw$All" 107 "; load " (A 32) s0 := by
  obtain ⟨b0, h1, -⟩ := h.flat
  exact vk_R.of (A := #[]) (h1 _ q1294) ((hS.1 32 (by decide)).1)
theorem xk_33 {l : Launch} {s0 : State} {D : va_G} {A V B : Nat → Nat} (h : x0 l s0 D) (hS : KS0 s0 A V B) : vk_R "KilnBenchLaw$All" 109 "; wind " (A 33) s0 := by
  obtain ⟨b0, h1, -⟩ := h.flat
  exact vk_R.of (A := #[]) (h1 _ q1295) ((hS.1 33 (by decide)).1)
theorem xk_34 {l : Launch} {s0 : State} {D : va_G} {A V B : Nat → Nat} (h : x0 l s0 D) (hS : KS0 s0 A V B) : vk_R "KilnBench" 484 "child" (A 34) s0 := by
  obtain ⟨b0, h1, -⟩ := h.flat
  exact vk_R.of (A := #[]) (h1 _ q2208) ((hS.1 34 (by decide)).1)
theorem xk_35 {l : Launch} {s0 : State} {D : va_G} {A V B : Nat → Nat} (h : x0 l s0 D) (hS : KS0 s0 A V B) : vk_R "KilnBench" 486 "clay" (A 35) s0 := by
  obtain ⟨b0, h1, -⟩ := h.flat
  exact vk_R.of (A := #[]) (h1 _ q2209) ((hS.1 35 (by decide)).1)
theorem xk_36 {l : Launch} {s0 : State} {D : va_G} {A V B : Nat → Nat} (h : x0 l s0 D) (hS : KS0 s0 A V B) : vk_R "KilnBench" 487 "grit" (A 36) s0 := by
  obtain ⟨b0, h1, -⟩ := h.flat
  exact vk_R.of (A := #[]) (h1 _ q2210) ((hS.1 36 (by decide)).1)
theorem xk_37 {l : Launch} {s0 : State} {D : va_G} {A V B : Nat → Nat} (h : x0 l s0 D) (hS : KS0 s0 A V B) : vk_R "KilnBench" 488 "kiln" (A 37) s0 := by
  obtain ⟨b0, h1, -⟩ := h.flat
  exact vk_R.of (A := #[]) (h1 _ q2211) ((hS.1 37 (by decide)).1)
theorem xk_38 {l : Launch} {s0 : State} {D : va_G} {A V B : Nat → Nat} (h : x0 l s0 D) (hS : KS0 s0 A V B) : vk_R "KilnBench" 489 "room" (A 38) s0 := by
  obtain ⟨b0, h1, -⟩ := h.flat
  exact vk_R.of (A := #[]) (h1 _ q2212) ((hS.1 38 (by decide)).1)
theorem xk_39 {l : Launch} {s0 : State} {D : va_G} {A V B : Nat → Nat} (h : x0 l s0 D) (hS : KS0 s0 A V B) : vk_R "KilnBench" 490 "temper" (A 39) s0 := by
  obtain ⟨b0, h1, -⟩ := h.flat
  exact vk_R.of (A := #[]) (h1 _ q2213) ((hS.1 39 (by decide)).1)
theorem xk_40 {l : Launch} {s0 : State} {D : va_G} {A V B : Nat → Nat} (h : x0 l s0 D) (hS : KS0 s0 A V B) : vk_R "KilnBench" 491 "cracks" (A 40) s0 := by
  obtain ⟨b0, h1, -⟩ := h.flat
  exact vk_R.of (A := #[]) (h1 _ q2214) ((hS.1 40 (by decide)).1)
theorem xk_41 {l : Launch} {s0 : State} {D : va_G} {A V B : Nat → Nat} (h : x0 l s0 D) (hS : KS0 s0 A V B) : vk_R "KilnBench" 492 "sticks" (A 41) s0 := by
  obtain ⟨b0, h1, -⟩ := h.flat
  exact vk_R.of (A := #[]) (h1 _ q2215) ((hS.1 41 (by decide)).1)
theorem xk_42 {l : Launch} {s0 : State} {D : va_G} {A V B : Nat → Nat} (h : x0 l s0 D) (hS : KS0 s0 A V B) : vk_R "KilnBench" 493 "burns" (A 42) s0 := by
  obtain ⟨b0, h1, -⟩ := h.flat
  exact vk_R.of (A := #[]) (h1 _ q2216) ((hS.1 42 (by decide)).1)
theorem xk_43 {l : Launch} {s0 : State} {D : va_G} {A V B : Nat → Nat} (h : x0 l s0 D) (hS : KS0 s0 A V B) : vk_R "KilnBench" 494 "fuel" (A 43) s0 := by
  obtain ⟨b0, h1, -⟩ := h.flat
  exact vk_R.of (A := #[]) (h1 _ q2217) ((hS.1 43 (by decide)).1)
theorem xk_44 {l : Launch} {s0 : State} {D : va_G} {A V B : Nat → Nat} (h : x0 l s0 D) (hS : KS0 s0 A V B) : vk_R "KilnBench" 495 "load" (A 44) s0 := by
  obtain ⟨b0, h1, -⟩ := h.flat
  exact vk_R.of (A := #[]) (h1 _ q2218) ((hS.1 44 (by decide)).1)
theorem xk_45 {l : Launch} {s0 : State} {D : va_G} {A V B : Nat → Nat} (h : x0 l s0 D) (hS : KS0 s0 A V B) : vk_R "KilnBench" 496 "wind" (A 45) s0 := by
  obtain ⟨b0, h1, -⟩ := h.flat
  exact vk_R.of (A := #[]) (h1 _ q2219) ((hS.1 45 (by decide)).1)
theorem xk_46 {l : Launch} {s0 : State} {D : va_G} {A V B : Nat → Nat} (h : x0 l s0 D) (hS : KS0 s0 A V B) : vk_R "KilnBench" 497 "heat" (A 46) s0 := by
  obtain ⟨b0, h1, -⟩ := h.flat
  exact vk_R.of (A := #[]) (h1 _ q2220) ((hS.1 46 (by decide)).1)
theorem xk_47 {l : Launch} {s0 : State} {D : va_G} {A V B : Nat → Nat} (h : x0 l s0 D) (hS : KS0 s0 A V B) : vk_R "KilnBench" 498 "week" (A 47) s0 := by
  obtain ⟨b0, h1, -⟩ := h.flat
  exact vk_R.of (A := #[]) (h1 _ q2221) ((hS.1 47 (by decide)).1)
theorem xk_48 {l : Launch} {s0 : State} {D : va_G} {A V B : Nat → Nat} (h : x0 l s0 D) (hS : KS0 s0 A V B) : vk_R "KilnBench" 500 "place" (A 48) s0 := by
  obtain ⟨b0, h1, -⟩ := h.flat
  exact vk_R.of (A := #[]) (h1 _ q2222) ((hS.1 48 (by decide)).1)
theorem xk_49 {l : Launch} {s0 : State} {D : va_G} {A V B : Nat → Nat} (h : x0 l s0 D) (hS : KS0 s0 A V B) : vk_R "KilnBench" 501 "rings" (A 49) s0 := by
  obtain ⟨b0, h1, -⟩ := h.flat
  exact vk_R.of (A := #[]) (h1 _ q2223) ((hS.1 49 (by decide)).1)
theorem xk_50 {l : Launch} {s0 : State} {D : va_G} {A V B : Nat → Nat} (h : x0 l s0 D) (hS : KS0 s0 A V B) : vk_R "KilnBench" 503 "near" (A 50) s0 := by
  obtain ⟨b0, h1, -⟩ := h.flat
  exact vk_R.of (A := #[]) (h1 _ q2224) ((hS.1 50 (by decide)).1)
theorem xk_51 {l : Launch} {s0 : State} {D : va_G} {A V B : Nat → Nat} (h : x0 l s0 D) (hS : KS0 s0 A V B) : vk_R "KilnBench" 505 "grits" (A 51) s0 := by
  obtain ⟨b0, h1, -⟩ := h.flat
  exact vk_R.of (A := #[]) (h1 _ q2225) ((hS.1 51 (by decide)).1)
theorem xk_52 {l : Launch} {s0 : State} {D : va_G} {A V B : Nat → Nat} (h : x0 l s0 D) (hS : KS0 s0 A V B) : vk_R "KilnBench" 507 "full" (A 52) s0 := by
  obtain ⟨b0, h1, -⟩ := h.flat
  exact vk_R.of (A := #[]) (h1 _ q2226) ((hS.1 52 (by decide)).1)
theorem xk_53 {l : Launch} {s0 : State} {D : va_G} {A V B : Nat → Nat} (h : x0 l s0 D) (hS : KS0 s0 A V B) : vk_R "KilnBench" 508 "if" (A 53) s0 := by
  obtain ⟨b0, h1, -⟩ := h.flat
  exact vk_R.of (A := #[]) (h1 _ q2227) ((hS.1 53 (by decide)).1)
theorem xk_54 {l : Launch} {s0 : State} {D : va_G} {A V B : Nat → Nat} (h : x0 l s0 D) (hS : KS0 s0 A V B) : vk_R "KilnBench" 510 "or" (A 54) s0 := by
  obtain ⟨b0, h1, -⟩ := h.flat
  exact vk_R.of (A := #[]) (h1 _ q2228) ((hS.1 54 (by decide)).1)
theorem xk_55 {l : Launch} {s0 : State} {D : va_G} {A V B : Nat → Nat} (h : x0 l s0 D) (hS : KS0 s0 A V B) : vk_R "KilnBench" 512 "and" (A 55) s0 := by
  obtain ⟨b0, h1, -⟩ := h.flat
  exact vk_R.of (A := #[]) (h1 _ q2229) ((hS.1 55 (by decide)).1)
theorem xk_56 {l : Launch} {s0 : State} {D : va_G} {A V B : Nat → Nat} (h : x0 l s0 D) (hS : KS0 s0 A V B) : vk_R "KilnBench" 514 "not" (A 56) s0 := by
  obtain ⟨b0, h1, -⟩ := h.flat
  exact vk_R.of (A := #[]) (h1 _ q2230) ((hS.1 56 (by decide)).1)
theorem xk_57 {l : Launch} {s0 : State} {D : va_G} {A V B : Nat → Nat} (h : x0 l s0 D) (hS : KS0 s0 A V B) : vk_R "KilnBench" 516 "all" (A 57) s0 := by
  obtain ⟨b0, h1, -⟩ := h.flat
  exact vk_R.of (A := #[]) (h1 _ q2231) ((hS.1 57 (by decide)).1)
theorem xk_58 {l : Launch} {s0 : State} {D : va_G} {A V B : Nat → Nat} (h : x0 l s0 D) (hS : KS0 s0 A V B) : vk_R "KilnBench" 518 "min" (A 58) s0 := by
  obtain ⟨b0, h1, -⟩ := h.flat
  exact vk_R.of (A := #[]) (h1 _ q2232) ((hS.1 58 (by decide)).1)
theorem xk_59 {l : Launch} {s0 : State} {D : va_G} {A V B : Nat → Nat} (h : x0 l s0 D) (hS : KS0 s0 A V B) : vk_R "KilnBench" 519 "max" (A 59) s0 := by
  obtain ⟨b0, h1, -⟩ := h.flat
  exact vk_R.of (A := #[]) (h1 _ q2233) ((hS.1 59 (by decide)).1)
theorem xk_60 {l : Launch} {s0 : State} {D : va_G} {A V B : Nat → Nat} (h : x0 l s0 D) (hS : KS0 s0 A V B) : vk_R "KilnBench$Asked" 21 "heat" (A 60) s0 := by
  obtain ⟨b0, h1, -⟩ := h.flat
  exact vk_R.of (A := #[]) (h1 _ q2235) ((hS.1 60 (by decide)).1)
theorem xk_61 {l : Launch} {s0 : State} {D : va_G} {A V B : Nat → Nat} (h : x0 l s0 D) (hS : KS0 s0 A V B) : vk_R "KilnBench$Asked" 23 "week" (A 61) s0 := by
  obtain ⟨b0, h1, -⟩ := h.flat
  exact vk_R.of (A := #[]) (h1 _ q2236) ((hS.1 61 (by decide)).1)
theorem xk_62 {l : Launch} {s0 : State} {D : va_G} {A V B : Nat → Nat} (h : x0 l s0 D) (hS : KS0 s0 A V B) : vk_R "KilnBench$Asked" 25 "clay" (A 62) s0 := by
  obtain ⟨b0, h1, -⟩ := h.flat
  exact vk_R.of (A := #[]) (h1 _ q2237) ((hS.1 62 (by decide)).1)
theorem xk_63 {l : Launch} {s0 : State} {D : va_G} {A V B : Nat → Nat} (h : x0 l s0 D) (hS : KS0 s0 A V B) : vk_R "KilnBench$Asked" 27 "grit" (A 63) s0 := by
  obtain ⟨b0, h1, -⟩ := h.flat
  exact vk_R.of (A := #[]) (h1 _ q2238) ((hS.1 63 (by decide)).1)
theorem xk_64 {l : Launch} {s0 : State} {D : va_G} {A V B : Nat → Nat} (h : x0 l s0 D) (hS : KS0 s0 A V B) : vk_R "KilnBench$Asked" 29 "place" (A 64) s0 := by
  obtain ⟨b0, h1, -⟩ := h.flat
  exact vk_R.of (A := #[]) (h1 _ q2239) ((hS.1 64 (by decide)).1)
theorem xk_65 {l : Launch} {s0 : State} {D : va_G} {A V B : Nat → Nat} (h : x0 l s0 D) (hS : KS0 s0 A V B) : vk_R "KilnBench$Asked" 31 "rings" (A 65) s0 := by
  obtain ⟨b0, h1, -⟩ := h.flat
  exact vk_R.of (A := #[]) (h1 _ q2240) ((hS.1 65 (by decide)).1)
theorem xk_66 {l : Launch} {s0 : State} {D : va_G} {A V B : Nat → Nat} (h : x0 l s0 D) (hS : KS0 s0 A V B) : vk_R "KilnBench$Asked" 33 "near" (A 66) s0 := by
  obtain ⟨b0, h1, -⟩ := h.flat
  exact vk_R.of (A := #[]) (h1 _ q2241) ((hS.1 66 (by decide)).1)
theorem xk_67 {l : Launch} {s0 : State} {D : va_G} {A V B : Nat → Nat} (h : x0 l s0 D) (hS : KS0 s0 A V B) : vk_R "KilnBench$Asked" 35 "grits" (A 67) s0 := by
  obtain ⟨b0, h1, -⟩ := h.flat
  exact vk_R.of (A := #[]) (h1 _ q2242) ((hS.1 67 (by decide)).1)
theorem xk_68 {l : Launch} {s0 : State} {D : va_G} {A V B : Nat → Nat} (h : x0 l s0 D) (hS : KS0 s0 A V B) : vk_R "KilnBench$Asked" 37 "room" (A 68) s0 := by
  obtain ⟨b0, h1, -⟩ := h.flat
  exact vk_R.of (A := #[]) (h1 _ q2243) ((hS.1 68 (by decide)).1)
theorem xk_69 {l : Launch} {s0 : State} {D : va_G} {A V B : Nat → Nat} (h : x0 l s0 D) (hS : KS0 s0 A V B) : vk_R "KilnBench$Asked" 39 "full" (A 69) s0 := by
  obtain ⟨b0, h1, -⟩ := h.flat
  exact vk_R.of (A := #[]) (h1 _ q2244) ((hS.1 69 (by decide)).1)
theorem xk_70 {l : Launch} {s0 : State} {D : va_G} {A V B : Nat → Nat} (h : x0 l s0 D) (hS : KS0 s0 A V B) : vk_R "KilnBenchLaw" 373 "clay+heat*2-grit" (A 70) s0 := by
  obtain ⟨b0, h1, -⟩ := h.flat
  exact vk_R.of (A := #[]) (h1 _ q2245) ((hS.1 70 (by decide)).1)
theorem xk_71 {l : Launch} {s0 : State} {D : va_G} {A V B : Nat → Nat} (h : x0 l s0 D) (hS : KS0 s0 A V B) : vk_R "KilnBenchLaw" 375 "heat*place+clay/2" (A 71) s0 := by
  obtain ⟨b0, h1, -⟩ := h.flat
  exact vk_R.of (A := #[]) (h1 _ q2246) ((hS.1 71 (by decide)).1)
theorem xk_72 {l : Launch} {s0 : State} {D : va_G} {A V B : Nat → Nat} (h : x0 l s0 D) (hS : KS0 s0 A V B) : vk_R "KilnBenchLaw" 377 "if(heat>10,clay-heat,heat*5)+week" (A 72) s0 := by
  obtain ⟨b0, h1, -⟩ := h.flat
  exact vk_R.of (A := #[]) (h1 _ q2247) ((hS.1 72 (by decide)).1)
theorem xk_73 {l : Launch} {s0 : State} {D : va_G} {A V B : Nat → Nat} (h : x0 l s0 D) (hS : KS0 s0 A V B) : vk_R "KilnBenchLaw" 379 "(clay*3+heat*7)%100" (A 73) s0 := by
  obtain ⟨b0, h1, -⟩ := h.flat
  exact vk_R.of (A := #[]) (h1 _ q2248) ((hS.1 73 (by decide)).1)
theorem xk_74 {l : Launch} {s0 : State} {D : va_G} {A V B : Nat → Nat} (h : x0 l s0 D) (hS : KS0 s0 A V B) : vk_R "KilnBenchLaw" 385 "rings>70" (A 74) s0 := by
  obtain ⟨b0, h1, -⟩ := h.flat
  exact vk_R.of (A := #[]) (h1 _ q2249) ((hS.1 74 (by decide)).1)
theorem xk_75 {l : Launch} {s0 : State} {D : va_G} {A V B : Nat → Nat} (h : x0 l s0 D) (hS : KS0 s0 A V B) : vk_R "KilnBenchLaw" 387 "heat>12 and grit<4" (A 75) s0 := by
  obtain ⟨b0, h1, -⟩ := h.flat
  exact vk_R.of (A := #[]) (h1 _ q2250) ((hS.1 75 (by decide)).1)
theorem xk_76 {l : Launch} {s0 : State} {D : va_G} {A V B : Nat → Nat} (h : x0 l s0 D) (hS : KS0 s0 A V B) : vk_R "KilnBenchLaw" 389 "rings%7=0" (A 76) s0 := by
  obtain ⟨b0, h1, -⟩ := h.flat
  exact vk_R.of (A := #[]) (h1 _ q2251) ((hS.1 76 (by decide)).1)
theorem xk_77 {l : Launch} {s0 : State} {D : va_G} {A V B : Nat → Nat} (h : x0 l s0 D) (hS : KS0 s0 A V B) : vk_R "KilnBenchLaw" 391 "place=0 and heat*2>clay" (A 77) s0 := by
  obtain ⟨b0, h1, -⟩ := h.flat
  exact vk_R.of (A := #[]) (h1 _ q2252) ((hS.1 77 (by decide)).1)
theorem xk_78 {l : Launch} {s0 : State} {D : va_G} {A V B : Nat → Nat} (h : x0 l s0 D) (hS : KS0 s0 A V B) : vk_R "KilnBenchLaw" 396 "near<5" (A 78) s0 := by
  obtain ⟨b0, h1, -⟩ := h.flat
  exact vk_R.of (A := #[]) (h1 _ q2253) ((hS.1 78 (by decide)).1)
theorem xk_79 {l : Launch} {s0 : State} {D : va_G} {A V B : Nat → Nat} (h : x0 l s0 D) (hS : KS0 s0 A V B) : vk_R "KilnBenchLaw" 398 "near<heat and grits>6" (A 79) s0 := by
  obtain ⟨b0, h1, -⟩ := h.flat
  exact vk_R.of (A := #[]) (h1 _ q2254) ((hS.1 79 (by decide)).1)
theorem xk_80 {l : Launch} {s0 : State} {D : va_G} {A V B : Nat → Nat} (h : x0 l s0 D) (hS : KS0 s0 A V B) : vk_R "KilnBenchLaw" 400 "near%3=1" (A 80) s0 := by
  obtain ⟨b0, h1, -⟩ := h.flat
  exact vk_R.of (A := #[]) (h1 _ q2255) ((hS.1 80 (by decide)).1)
theorem xk_81 {l : Launch} {s0 : State} {D : va_G} {A V B : Nat → Nat} (h : x0 l s0 D) (hS : KS0 s0 A V B) : vk_R "KilnBenchLaw" 402 "grits<8 or near=0" (A 81) s0 := by
  obtain ⟨b0, h1, -⟩ := h.flat
  exact vk_R.of (A := #[]) (h1 _ q2256) ((hS.1 81 (by decide)).1)
theorem xk_82 {l : Launch} {s0 : State} {D : va_G} {A V B : Nat → Nat} (h : x0 l s0 D) (hS : KS0 s0 A V B) : vk_R "KilnBenchLaw" 407 "heat*room" (A 82) s0 := by
  obtain ⟨b0, h1, -⟩ := h.flat
  exact vk_R.of (A := #[]) (h1 _ q2257) ((hS.1 82 (by decide)).1)
theorem xk_83 {l : Launch} {s0 : State} {D : va_G} {A V B : Nat → Nat} (h : x0 l s0 D) (hS : KS0 s0 A V B) : vk_R "KilnBenchLaw" 409 "heat+full*3+week%2" (A 83) s0 := by
  obtain ⟨b0, h1, -⟩ := h.flat
  exact vk_R.of (A := #[]) (h1 _ q2258) ((hS.1 83 (by decide)).1)
theorem xk_84 {l : Launch} {s0 : State} {D : va_G} {A V B : Nat → Nat} (h : x0 l s0 D) (hS : KS0 s0 A V B) : vk_R "KilnBenchLaw" 411 "room*2-heat" (A 84) s0 := by
  obtain ⟨b0, h1, -⟩ := h.flat
  exact vk_R.of (A := #[]) (h1 _ q2259) ((hS.1 84 (by decide)).1)
theorem xk_85 {l : Launch} {s0 : State} {D : va_G} {A V B : Nat → Nat} (h : x0 l s0 D) (hS : KS0 s0 A V B) : vk_R "KilnBenchLaw" 413 "if(heat>9,40,5)" (A 85) s0 := by
  obtain ⟨b0, h1, -⟩ := h.flat
  exact vk_R.of (A := #[]) (h1 _ q2260) ((hS.1 85 (by decide)).1)
