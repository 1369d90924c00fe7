set_option maxHeartbeats 4000000 in
set_option maxRecDepth 100000 in
/-- isIn -/
theorem m_X2_isIn {l : Launch} {s0 : State} {D : va_G} (h0 : x0 l s0 D) (g : xG) (v a b : Int64) : xMet l s0 D yX2_isIn cX2_isIn 6 (some .boolean) (xr 0 0 0 0) [.long v, .long a, .long b] g (fun r g1 => r = some (.int (if a ≤ v ∧ v ≤ b then 1 else 0)) ∧ g1 = g) := by
  refine xMet.of h0 (by decide +kernel) rfl ?_
  intro p e s m args below meth c hC hr hnm
  refine x_lload_n hC dX2_isIn_0 (q := 1) rfl rfl ?_
  refine x_lload_n hC dX2_isIn_1 (q := 2) rfl rfl ?_
  refine x_lcmp hC dX2_isIn_2 (q := 3) rfl ?_
  refine x_if_lt hC dX2_isIn_3 (q := 6) rfl (tgt := 17) rfl (fun h3 => ?_) (fun h3 => ?_)
  · refine x_iconst hC dX2_isIn_17 (q := 18) rfl (v := (0)) (by decide) ?_
    exact x_zret hC hr rfl dX2_isIn_18 (Nat.le_of_ble_eq_true rfl) (Nat.le_of_ble_eq_true rfl) ⟨by simp only [lg_cmp_lt, lg_cmp_gt, Int64.lt_iff_toInt_lt, Int64.le_iff_toInt_le] at *; split <;> first | rfl | (exfalso; omega), rfl⟩
  refine x_lload_n hC dX2_isIn_6 (q := 7) rfl rfl ?_
  refine x_lload hC dX2_isIn_7 (q := 9) rfl rfl ?_
  refine x_lcmp hC dX2_isIn_9 (q := 10) rfl ?_
  refine x_if_gt hC dX2_isIn_10 (q := 13) rfl (tgt := 17) rfl (fun h10 => ?_) (fun h10 => ?_)
  · refine x_iconst hC dX2_isIn_17 (q := 18) rfl (v := (0)) (by decide) ?_
    exact x_zret hC hr rfl dX2_isIn_18 (Nat.le_of_ble_eq_true rfl) (Nat.le_of_ble_eq_true rfl) ⟨by simp only [lg_cmp_lt, lg_cmp_gt, Int64.lt_iff_toInt_lt, Int64.le_iff_toInt_le] at *; split <;> first | rfl | (exfalso; omega), rfl⟩
  refine x_iconst hC dX2_isIn_13 (q := 14) rfl (v := (1)) (by decide) ?_
  refine x_goto hC dX2_isIn_14 (tgt := 18) rfl ?_
  exact x_zret hC hr rfl dX2_isIn_18 (Nat.le_of_ble_eq_true rfl) (Nat.le_of_ble_eq_true rfl) ⟨by simp only [lg_cmp_lt, lg_cmp_gt, Int64.lt_iff_toInt_lt, Int64.le_iff_toInt_le] at *; split <;> first | rfl | (exfalso; omega), rfl⟩

theorem m_isIn_t {l : Launch} {s0 : State} {D : va_G} (h0 : x0 l s0 D) (g : xG) {v a b : Int64} {x y z : Int} (hv : v.toInt = x) (ha : a.toInt = y) (hb : b.toInt = z) (h : y ≤ x ∧ x ≤ z) : xMet l s0 D yX2_isIn cX2_isIn 6 (some .boolean) (xr 0 0 0 0) [.long v, .long a, .long b] g (fun r g1 => r = some (.int 1) ∧ g1 = g) := by
  have := m_X2_isIn h0 g v a b
  rwa [if_pos (by rw [Int64.le_iff_toInt_le, Int64.le_iff_toInt_le, hv, ha, hb]; exact h)] at this
theorem m_isIn_f {l : Launch} {s0 : State} {D : va_G} (h0 : x0 l s0 D) (g : xG) {v a b : Int64} {x y z : Int} (hv : v.toInt = x) (ha : a.toInt = y) (hb : b.toInt = z) (h : ¬ (y ≤ x ∧ x ≤ z)) : xMet l s0 D yX2_isIn cX2_isIn 6 (some .boolean) (xr 0 0 0 0) [.long v, .long a, .long b] g (fun r g1 => r = some (.int 0) ∧ g1 = g) := by
  have := m_X2_isIn h0 g v a b
  rwa [if_neg (by rw [Int64.le_iff_toInt_le, Int64.le_iff_toInt_le, hv, ha, hb]; exact h)] at this
theorem nI64 {j : Nat} (h : j < 2147483648) : (nI j).toInt64.toInt = j := by rw [Int32.toInt_toInt64, ← iI_nat, iI_toInt (iB_nat h)]
theorem nI64p {j : Nat} (h : j < 2147483648) : (nI j - 1).toInt64.toInt = (j : Int) - 1 := by
  have : nI j - 1 = iI ((j : Int) - 1) := by rw [← iI_nat, iI_lit 1, iI_sub]
  rw [this, Int32.toInt_toInt64, iI_toInt ⟨by omega, by omega⟩]
theorem iI64 {z : Int} (h : iB z) : (iI z).toInt64.toInt = z := by rw [Int32.toInt_toInt64, iI_toInt h]

set_option maxHeartbeats 4000000 in
set_option maxRecDepth 100000 in
theorem m_J10_checkIndex {l : Launch} {s0 : State} {D : va_G} (h0 : x0 l s0 D) (g : xG) (i n : Int32) (h1 : ¬ i < 0) (h2 : i < n) : xMet l s0 D yJ10_checkIndex cJ10_checkIndex 3 (some .int) (xr 0 0 0 0) [.int i, .int n, .null] g (fun r g1 => r = some (.int i) ∧ g1 = g) := by
  refine xMet.of h0 (by decide +kernel) rfl ?_
  intro p e s m args below meth c hC hr hnm
  refine x_iload_n hC dJ10_checkIndex_0 (q := 1) rfl rfl ?_
  refine x_if_lt hC dJ10_checkIndex_1 (q := 4) rfl (tgt := 9) rfl (fun h1 => ?_) (fun h1 => ?_)
  · exact absurd h1 (by assumption)
  refine x_iload_n hC dJ10_checkIndex_4 (q := 5) rfl rfl ?_
  refine x_iload_n hC dJ10_checkIndex_5 (q := 6) rfl rfl ?_
  refine x_icmp_lt hC dJ10_checkIndex_6 (q := 9) rfl (tgt := 16) rfl (fun h6 => ?_) (fun h6 => ?_)
  · refine x_iload_n hC dJ10_checkIndex_16 (q := 17) rfl rfl ?_
    exact x_iret hC hr dJ10_checkIndex_17 (Nat.le_of_ble_eq_true rfl) (Nat.le_of_ble_eq_true rfl) ⟨rfl, rfl⟩
  · exact absurd h2 (by assumption)

set_option maxHeartbeats 4000000 in
set_option maxRecDepth 100000 in
theorem m_J10_checkIndex_r {l : Launch} {s0 : State} {D : va_G} (h0 : x0 l s0 D) (g : xG) (i n : Int32) (t : Nat) (h1 : ¬ i < 0) (h2 : i < n) : xMet l s0 D yJ10_checkIndex cJ10_checkIndex 3 (some .int) (xr 0 0 0 0) [.int i, .int n, .ref t] g (fun r g1 => r = some (.int i) ∧ g1 = g) := by
  refine xMet.of h0 (by decide +kernel) rfl ?_
  intro p e s m args below meth c hC hr hnm
  refine x_iload_n hC dJ10_checkIndex_0 (q := 1) rfl rfl ?_
  refine x_if_lt hC dJ10_checkIndex_1 (q := 4) rfl (tgt := 9) rfl (fun h1 => ?_) (fun h1 => ?_)
  · exact absurd h1 (by assumption)
  refine x_iload_n hC dJ10_checkIndex_4 (q := 5) rfl rfl ?_
  refine x_iload_n hC dJ10_checkIndex_5 (q := 6) rfl rfl ?_
  refine x_icmp_lt hC dJ10_checkIndex_6 (q := 9) rfl (tgt := 16) rfl (fun h6 => ?_) (fun h6 => ?_)
  · refine x_iload_n hC dJ10_checkIndex_16 (q := 17) rfl rfl ?_
    exact x_iret hC hr dJ10_checkIndex_17 (Nat.le_of_ble_eq_true rfl) (Nat.le_of_ble_eq_true rfl) ⟨rfl, rfl⟩
  · exact absurd h2 (by assumption)

set_option maxHeartbeats 4000000 in
set_option maxRecDepth 100000 in
theorem m_J15_checkIndex {l : Launch} {s0 : State} {D : va_G} (h0 : x0 l s0 D) (g : xG) (i n : Int32) (h1 : ¬ i < 0) (h2 : i < n) : xMet l s0 D yJ15_checkIndex cJ15_checkIndex 2 (some .int) (xr 1 0 0 22) [.int i, .int n] g (fun r g1 => r = some (.int i) ∧ g1 = g) := by
  refine xMet.of h0 (by decide +kernel) rfl ?_
  intro p e s m args below meth c hC hr hnm
  refine x_iload_n hC dJ15_checkIndex_0 (q := 1) rfl rfl ?_
  refine x_iload_n hC dJ15_checkIndex_1 (q := 2) rfl rfl ?_
  refine x_null hC dJ15_checkIndex_2 (q := 3) rfl ?_
  refine x_callS hC xv_J15_105 dJ15_checkIndex_3 (q := 6) rfl rfl (m_J10_checkIndex h0 g i n h1 h2) rfl (Nat.le_of_ble_eq_true rfl) ⟨(Nat.le_of_ble_eq_true rfl), (Nat.le_of_ble_eq_true rfl)⟩ ⟨(Nat.le_of_ble_eq_true rfl), (Nat.le_of_ble_eq_true rfl)⟩ (fun v g1 hp => ?_)
  obtain ⟨rfl, rfl⟩ := hp
  exact x_iret hC hr dJ15_checkIndex_6 (Nat.le_of_ble_eq_true rfl) (Nat.le_of_ble_eq_true rfl) ⟨rfl, rfl⟩

set_option maxHeartbeats 4000000 in
set_option maxRecDepth 100000 in
theorem m_J3_size {l : Launch} {s0 : State} {D : va_G} (h0 : x0 l s0 D) (g : xG) {n : xN} {a d : Nat} {mc z : Int32} (hl : g n = some (a, xO 21 [.int mc, .ref d, .int z])) : xMet l s0 D yJ3_size cJ3_size 1 (some .int) (xr 0 0 0 0) [.ref a] g (fun r g1 => r = some (.int z) ∧ g1 = g) := by
  refine xMet.of h0 (by decide +kernel) rfl ?_
  intro p e s m args below meth c hC hr hnm
  refine x_aloadr_n hC dJ3_size_0 (q := 1) rfl rfl ?_
  refine x_get hC xf_J3_48_21 dJ3_size_1 (q := 4) rfl (n := n) hl rfl ?_
  exact x_iret hC hr dJ3_size_4 (Nat.le_of_ble_eq_true rfl) (Nat.le_of_ble_eq_true rfl) ⟨rfl, rfl⟩

set_option maxHeartbeats 4000000 in
set_option maxRecDepth 100000 in
theorem m_J3_isEmpty {l : Launch} {s0 : State} {D : va_G} (h0 : x0 l s0 D) (g : xG) {n : xN} {a d : Nat} {mc z : Int32} (hl : g n = some (a, xO 21 [.int mc, .ref d, .int z])) : xMet l s0 D yJ3_isEmpty cJ3_isEmpty 1 (some .boolean) (xr 0 0 0 0) [.ref a] g (fun r g1 => r = some (.int (if z = 0 then 1 else 0)) ∧ g1 = g) := by
  refine xMet.of h0 (by decide +kernel) rfl ?_
  intro p e s m args below meth c hC hr hnm
  refine x_aloadr_n hC dJ3_isEmpty_0 (q := 1) rfl rfl ?_
  refine x_get hC xf_J3_48_21 dJ3_isEmpty_1 (q := 4) rfl (n := n) hl rfl ?_
  refine x_if_ne hC dJ3_isEmpty_4 (q := 7) rfl (tgt := 11) rfl (fun h4 => ?_) (fun h4 => ?_)
  · refine x_iconst hC dJ3_isEmpty_11 (q := 12) rfl (v := (0)) (by decide) ?_
    exact x_zret hC hr rfl dJ3_isEmpty_12 (Nat.le_of_ble_eq_true rfl) (Nat.le_of_ble_eq_true rfl) ⟨by simp_all, rfl⟩
  refine x_iconst hC dJ3_isEmpty_7 (q := 8) rfl (v := (1)) (by decide) ?_
  refine x_goto hC dJ3_isEmpty_8 (tgt := 12) rfl ?_
  exact x_zret hC hr rfl dJ3_isEmpty_12 (Nat.le_of_ble_eq_true rfl) (Nat.le_of_ble_eq_true rfl) ⟨by simp_all, rfl⟩

set_option maxHeartbeats 4000000 in
set_option maxRecDepth 100000 in
theorem m_J3_elementData {l : Launch} {s0 : State} {D : va_G} (h0 : x0 l s0 D) (g : xG) {n nd : xN} {a d N j : Nat} {mc z i : Int32} {f : Nat → Option Nat} (hl : g n = some (a, xO 21 [.int mc, .ref d, .int z])) (ha : g nd = some (d, xAr (.object "java/lang/Object") N f)) (hi : i = nI j) (hj : j < N) (hN : N < 2 ^ 31) : xMet l s0 D yJ3_elementData cJ3_elementData 2 (some (.object "java/lang/Object")) (xr 0 0 0 0) [.ref a, .int i] g (fun r g1 => r = some (va_rf (f j)) ∧ g1 = g) := by
  refine xMet.of h0 (by decide +kernel) rfl ?_
  intro p e s m args below meth c hC hr hnm
  refine x_aloadr_n hC dJ3_elementData_0 (q := 1) rfl rfl ?_
  refine x_get hC xf_J3_9_21 dJ3_elementData_1 (q := 4) rfl (n := n) hl rfl ?_
  refine x_iload_n hC dJ3_elementData_4 (q := 5) rfl rfl ?_
  refine x_aald hC dJ3_elementData_5 (q := 6) rfl (n := nd) ha hi hj hN rfl ?_
  exact x_aret hC hr (Or.inl ⟨_, rfl⟩) (va_rf_or _) dJ3_elementData_6 (Nat.le_of_ble_eq_true rfl) (Nat.le_of_ble_eq_true rfl) ⟨rfl, rfl⟩

set_option maxHeartbeats 4000000 in
set_option maxRecDepth 100000 in
theorem m_J3_get {l : Launch} {s0 : State} {D : va_G} (h0 : x0 l s0 D) (g : xG) {n nd : xN} {a d N j sz : Nat} {mc z i : Int32} {f : Nat → Option Nat} (hl : g n = some (a, xO 21 [.int mc, .ref d, .int z])) (ha : g nd = some (d, xAr (.object "java/lang/Object") N f)) (hi : i = nI j) (hz : z = nI sz) (hs : j < sz) (hN2 : sz ≤ N) (hN : N < 2 ^ 31) : xMet l s0 D yJ3_get cJ3_get 2 (some (.object "java/lang/Object")) (xr 2 0 0 43) [.ref a, .int i] g (fun r g1 => r = some (va_rf (f j)) ∧ g1 = g) := by
  refine xMet.of h0 (by decide +kernel) rfl ?_
  intro p e s m args below meth c hC hr hnm
  refine x_iload_n hC dJ3_get_0 (q := 1) rfl rfl ?_
  refine x_aloadr_n hC dJ3_get_1 (q := 2) rfl rfl ?_
  refine x_get hC xf_J3_48_21 dJ3_get_2 (q := 5) rfl (n := n) hl rfl ?_
  refine x_callS hC xv_J3_118 dJ3_get_5 (q := 8) rfl rfl (m_J15_checkIndex h0 g _ _ (by rw [hi]; exact nI_pos (by omega)) (by rw [hi, hz]; exact nI_lt hs (by omega))) rfl (Nat.le_of_ble_eq_true rfl) ⟨(Nat.le_of_ble_eq_true rfl), (Nat.le_of_ble_eq_true rfl)⟩ ⟨(Nat.le_of_ble_eq_true rfl), (Nat.le_of_ble_eq_true rfl)⟩ (fun v g1 hp => ?_)
  obtain ⟨rfl, rfl⟩ := hp
  refine x_pop hC dJ3_get_8 (q := 9) rfl rfl ?_
  refine x_aloadr_n hC dJ3_get_9 (q := 10) rfl rfl ?_
  refine x_iload_n hC dJ3_get_10 (q := 11) rfl rfl ?_
  refine x_callV hC xv_J3_123 dJ3_get_11 (q := 14) rfl rfl (m_J3_elementData h0 _ hl ha hi (by omega) hN) (nn := n) hl rfl rfl (Nat.le_of_ble_eq_true rfl) ⟨(Nat.le_of_ble_eq_true rfl), (Nat.le_of_ble_eq_true rfl)⟩ ⟨(Nat.le_of_ble_eq_true rfl), (Nat.le_of_ble_eq_true rfl)⟩ (fun v g1 hp => ?_)
  obtain ⟨rfl, rfl⟩ := hp
  exact x_aret hC hr (Or.inl ⟨_, rfl⟩) (va_rf_or _) dJ3_get_14 (Nat.le_of_ble_eq_true rfl) (Nat.le_of_ble_eq_true rfl) ⟨rfl, rfl⟩

