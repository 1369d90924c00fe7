set_option maxHeartbeats 4000000 in
set_option maxRecDepth 100000 in
theorem m_X2_of_in {l : Launch} {s0 : State} {D : va_G} (h0 : x0 l s0 D) (g : xG) {n nd : xN} {a d N j sz : Nat} {mc z i : Int32} {f : Nat → Option Nat} (hl : g n = some (a, xO 21 [.int mc, .ref d, .int z])) (ha : g nd = some (d, xAr (.object "java/lang/Object") N f)) (hi : i = nI j) (hz : z = nI sz) (hs : j < sz) (hN2 : sz ≤ N) (hN : N < 2147483648) : xMet l s0 D yX2_of cX2_of 2 (some (.object "java/lang/Object")) (xr 3 0 0 64) [.ref a, .int i] g (fun r g1 => r = some (va_rf (f j)) ∧ g1 = g) := by
  refine xMet.of h0 (by decide +kernel) rfl ?_
  intro p e s m args below meth c hC hr hnm
  refine x_iload_n hC dX2_of_0 (q := 1) rfl rfl ?_
  refine x_i2l hC dX2_of_1 (q := 2) rfl ?_
  refine x_lconst hC dX2_of_2 (q := 3) rfl (v := 0) (by decide) ?_
  refine x_aloadr_n hC dX2_of_3 (q := 4) rfl rfl ?_
  refine x_callV hC xv_X2_136 dX2_of_4 (q := 7) rfl rfl (m_J3_size h0 _ hl) (nn := n) hl rfl rfl (Nat.le_of_ble_eq_true rfl) ⟨(Nat.le_of_ble_eq_true rfl), (Nat.le_of_ble_eq_true rfl)⟩ ⟨(Nat.le_of_ble_eq_true rfl), (Nat.le_of_ble_eq_true rfl)⟩ (fun v g1 hp => ?_)
  obtain ⟨rfl, rfl⟩ := hp
  refine x_iconst hC dX2_of_7 (q := 8) rfl (v := (1)) (by decide) ?_
  refine x_isub hC dX2_of_8 (q := 9) rfl ?_
  refine x_i2l hC dX2_of_9 (q := 10) rfl ?_
  refine x_callS hC xv_X2_95 dX2_of_10 (q := 13) rfl rfl (m_isIn_t h0 _ (x := j) (y := 0) (z := (sz : Int) - 1) (by rw [hi]; exact nI64 (by omega)) rfl (by rw [hz]; exact nI64p (by omega)) (by omega)) rfl (Nat.le_of_ble_eq_true rfl) ⟨(Nat.le_of_ble_eq_true rfl), (Nat.le_of_ble_eq_true rfl)⟩ ⟨(Nat.le_of_ble_eq_true rfl), (Nat.le_of_ble_eq_true rfl)⟩ (fun v g1 hp => ?_)
  obtain ⟨rfl, rfl⟩ := hp
  refine x_if_eq hC dX2_of_13 (q := 16) rfl (tgt := 24) rfl (fun h13 => ?_) (fun h13 => ?_)
  · exact absurd h13 (by decide)
  refine x_aloadr_n hC dX2_of_16 (q := 17) rfl rfl ?_
  refine x_iload_n hC dX2_of_17 (q := 18) rfl rfl ?_
  refine x_callV hC xv_X2_139 dX2_of_18 (q := 21) rfl rfl (m_J3_get h0 _ hl ha hi hz hs hN2 hN) (nn := n) hl rfl rfl (Nat.le_of_ble_eq_true rfl) ⟨(Nat.le_of_ble_eq_true rfl), (Nat.le_of_ble_eq_true rfl)⟩ ⟨(Nat.le_of_ble_eq_true rfl), (Nat.le_of_ble_eq_true rfl)⟩ (fun v g1 hp => ?_)
  obtain ⟨rfl, rfl⟩ := hp
  refine x_goto hC dX2_of_21 (tgt := 25) rfl ?_
  exact x_aret hC hr (Or.inl ⟨_, rfl⟩) (va_rf_or _) dX2_of_25 (Nat.le_of_ble_eq_true rfl) (Nat.le_of_ble_eq_true rfl) ⟨rfl, rfl⟩

set_option maxHeartbeats 4000000 in
set_option maxRecDepth 100000 in
theorem m_X2_of_out {l : Launch} {s0 : State} {D : va_G} (h0 : x0 l s0 D) (g : xG) {n : xN} {a d sz : Nat} {mc z i : Int32} (hl : g n = some (a, xO 21 [.int mc, .ref d, .int z])) (hz : z = nI sz) (hN : sz < 2147483648) (ho : i.toInt < 0 ∨ (sz : Int) ≤ i.toInt) : xMet l s0 D yX2_of cX2_of 2 (some (.object "java/lang/Object")) (xr 3 0 0 64) [.ref a, .int i] g (fun r g1 => r = some (.null) ∧ g1 = g) := by
  refine xMet.of h0 (by decide +kernel) rfl ?_
  intro p e s m args below meth c hC hr hnm
  refine x_iload_n hC dX2_of_0 (q := 1) rfl rfl ?_
  refine x_i2l hC dX2_of_1 (q := 2) rfl ?_
  refine x_lconst hC dX2_of_2 (q := 3) rfl (v := 0) (by decide) ?_
  refine x_aloadr_n hC dX2_of_3 (q := 4) rfl rfl ?_
  refine x_callV hC xv_X2_136 dX2_of_4 (q := 7) rfl rfl (m_J3_size h0 _ hl) (nn := n) hl rfl rfl (Nat.le_of_ble_eq_true rfl) ⟨(Nat.le_of_ble_eq_true rfl), (Nat.le_of_ble_eq_true rfl)⟩ ⟨(Nat.le_of_ble_eq_true rfl), (Nat.le_of_ble_eq_true rfl)⟩ (fun v g1 hp => ?_)
  obtain ⟨rfl, rfl⟩ := hp
  refine x_iconst hC dX2_of_7 (q := 8) rfl (v := (1)) (by decide) ?_
  refine x_isub hC dX2_of_8 (q := 9) rfl ?_
  refine x_i2l hC dX2_of_9 (q := 10) rfl ?_
  refine x_callS hC xv_X2_95 dX2_of_10 (q := 13) rfl rfl (m_isIn_f h0 _ (x := i.toInt) (y := 0) (z := (sz : Int) - 1) (Int32.toInt_toInt64 i) rfl (by rw [hz]; exact nI64p (by omega)) (by omega)) rfl (Nat.le_of_ble_eq_true rfl) ⟨(Nat.le_of_ble_eq_true rfl), (Nat.le_of_ble_eq_true rfl)⟩ ⟨(Nat.le_of_ble_eq_true rfl), (Nat.le_of_ble_eq_true rfl)⟩ (fun v g1 hp => ?_)
  obtain ⟨rfl, rfl⟩ := hp
  refine x_if_eq hC dX2_of_13 (q := 16) rfl (tgt := 24) rfl (fun h13 => ?_) (fun h13 => ?_)
  · refine x_null hC dX2_of_24 (q := 25) rfl ?_
    exact x_aret hC hr (Or.inl ⟨_, rfl⟩) (Or.inl rfl) dX2_of_25 (Nat.le_of_ble_eq_true rfl) (Nat.le_of_ble_eq_true rfl) ⟨rfl, rfl⟩
  · exact absurd rfl h13
