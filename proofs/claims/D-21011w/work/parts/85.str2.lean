/-! strings of Latin-1 letters: length, charAt -/
set_option maxHeartbeats 4000000 in
set_option maxRecDepth 100000 in
theorem m_J6_length {l : Launch} {s0 : State} {D : va_G} (h0 : x0 l s0 D) (g : xG) {n nv : xN} {a va N : Nat} {hr : List Value} {f : Nat → Int32} (hs : g n = some (a, xO 23 (.ref va :: .int 0 :: hr))) (hv : g nv = some (va, xAi .byte N f)) (hN : N < 2 ^ 31) : xMet l s0 D yJ6_length cJ6_length 1 (some .int) (xr 1 0 0 25) [.ref a] g (fun r g1 => r = some (.int (nI N)) ∧ g1 = g) := by
  refine xMet.of h0 (by decide +kernel) rfl ?_
  intro p e s m args below meth c hC hr hnm
  refine x_aloadr_n hC dJ6_length_0 (q := 1) rfl rfl ?_
  refine x_get hC xf_J6_9_23 dJ6_length_1 (q := 4) rfl (n := n) hs rfl ?_
  refine x_alen hC dJ6_length_4 (q := 5) rfl (n := nv) hv ?_
  refine x_aloadr_n hC dJ6_length_5 (q := 6) rfl rfl ?_
  refine x_callV hC xv_J6_335 dJ6_length_6 (q := 9) rfl rfl (m_J6_coder h0 g hs) (nn := n) hs rfl rfl (Nat.le_of_ble_eq_true rfl) ⟨(Nat.le_of_ble_eq_true rfl), (Nat.le_of_ble_eq_true rfl)⟩ ⟨(Nat.le_of_ble_eq_true rfl), (Nat.le_of_ble_eq_true rfl)⟩ (fun v g1 hp => ?_)
  obtain ⟨rfl, hg1⟩ := hp
  replace hg1 := hg1.symm
  subst hg1
  refine x_ishr hC dJ6_length_9 (q := 10) rfl ?_
  exact x_iret hC hr dJ6_length_10 (Nat.le_of_ble_eq_true rfl) (Nat.le_of_ble_eq_true rfl) ⟨by rw [show ((0 : Int32) &&& 31) = 0 from rfl]; simp, rfl⟩

theorem char_i (x : Int32) : ((x &&& 255).toUInt32 % 65536).toInt32 = x &&& 255 := by
  obtain ⟨n, hn, hx⟩ := b255 x
  rw [hx]
  rw [pk_char]
  have e2 : (nI n).toBitVec.toNat = n := by
    show n % 2 ^ 32 = n
    exact Nat.mod_eq_of_lt (by omega)
  rw [e2, Nat.mod_eq_of_lt (by omega)]
theorem s_not_neg {j : Nat} (h : j < 2 ^ 31) : ¬ nI j < 0 := fun q => by
  have := Int32.lt_iff_toInt_lt.mp q
  rw [nI_toInt h] at this
  exact absurd this (by show ¬ (j : Int) < 0; omega)

set_option maxHeartbeats 4000000 in
set_option maxRecDepth 100000 in
theorem m_J11_charAt {l : Launch} {s0 : State} {D : va_G} (h0 : x0 l s0 D) (g : xG) {nv : xN} {va N : Nat} {f : Nat → Int32} (hv : g nv = some (va, xAi .byte N f)) (hN : N < 2 ^ 31) (j : Nat) (hj : j < N) : xMet l s0 D yJ11_charAt cJ11_charAt 2 (some .char) (xr 2 0 0 50) [.ref va, .int (nI j)] g (fun r g1 => r = some (.int (f j &&& 255)) ∧ g1 = g) := by
  refine xMet.of h0 (by decide +kernel) rfl ?_
  intro p e s m args below meth c hC hr hnm
  refine x_iload_n hC dJ11_charAt_0 (q := 1) rfl rfl ?_
  refine x_aloadr_n hC dJ11_charAt_1 (q := 2) rfl rfl ?_
  refine x_alen hC dJ11_charAt_2 (q := 3) rfl (n := nv) hv ?_
  refine x_callS hC xv_J11_9 dJ11_charAt_3 (q := 6) rfl rfl (m_J6_checkIndex h0 g _ _ (s_not_neg (by omega)) ((nI_ltI (by omega) (by omega)).mpr hj)) rfl (Nat.le_of_ble_eq_true rfl) ⟨(Nat.le_of_ble_eq_true rfl), (Nat.le_of_ble_eq_true rfl)⟩ ⟨(Nat.le_of_ble_eq_true rfl), (Nat.le_of_ble_eq_true rfl)⟩ (fun v g1 hp => ?_)
  obtain ⟨rfl, hg1⟩ := hp
  replace hg1 := hg1.symm
  subst hg1
  refine x_aloadr_n hC dJ11_charAt_6 (q := 7) rfl rfl ?_
  refine x_iload_n hC dJ11_charAt_7 (q := 8) rfl rfl ?_
  refine x_bald hC dJ11_charAt_8 (q := 9) rfl (n := nv) hv rfl hj hN ?_
  refine x_sipush hC dJ11_charAt_9 (q := 12) rfl (v := (255)) (by decide) ?_
  refine x_iand hC dJ11_charAt_12 (q := 13) rfl ?_
  refine x_i2c hC dJ11_charAt_13 (q := 14) rfl ?_
  exact x_zret hC hr (by have := char_b (f j); rw [char_i] at this ⊢; exact congrArg Value.int this) dJ11_charAt_14 (Nat.le_of_ble_eq_true rfl) (Nat.le_of_ble_eq_true rfl) ⟨by rw [char_i], rfl⟩

set_option maxHeartbeats 4000000 in
set_option maxRecDepth 100000 in
theorem m_J6_charAt {l : Launch} {s0 : State} {D : va_G} (h0 : x0 l s0 D) (g : xG) {n nv : xN} {a va N : Nat} {hr : List Value} {f : Nat → Int32} (hs : g n = some (a, xO 23 (.ref va :: .int 0 :: hr))) (hv : g nv = some (va, xAi .byte N f)) (hN : N < 2 ^ 31) (j : Nat) (hj : j < N) : xMet l s0 D yJ6_charAt cJ6_charAt 2 (some .char) (xr 4 0 0 80) [.ref a, .int (nI j)] g (fun r g1 => r = some (.int (f j &&& 255)) ∧ g1 = g) := by
  refine xMet.of h0 (by decide +kernel) rfl ?_
  intro p e s m args below meth c hC hr hnm
  refine x_aloadr_n hC dJ6_charAt_0 (q := 1) rfl rfl ?_
  refine x_callV hC xv_J6_492 dJ6_charAt_1 (q := 4) rfl rfl (m_J6_isLatin1 h0 g hs) (nn := n) hs rfl rfl (Nat.le_of_ble_eq_true rfl) ⟨(Nat.le_of_ble_eq_true rfl), (Nat.le_of_ble_eq_true rfl)⟩ ⟨(Nat.le_of_ble_eq_true rfl), (Nat.le_of_ble_eq_true rfl)⟩ (fun v g1 hp => ?_)
  obtain ⟨rfl, hg1⟩ := hp
  replace hg1 := hg1.symm
  subst hg1
  refine x_if_eq hC dJ6_charAt_4 (q := 7) rfl (tgt := 16) rfl (fun h4 => ?_) (fun h4 => ?_)
  · exact absurd h4 (by decide)
  refine x_aloadr_n hC dJ6_charAt_7 (q := 8) rfl rfl ?_
  refine x_get hC xf_J6_9_23 dJ6_charAt_8 (q := 11) rfl (n := n) hs rfl ?_
  refine x_iload_n hC dJ6_charAt_11 (q := 12) rfl rfl ?_
  refine x_callS hC xv_J6_495 dJ6_charAt_12 (q := 15) rfl rfl (m_J11_charAt h0 g hv hN j hj) rfl (Nat.le_of_ble_eq_true rfl) ⟨(Nat.le_of_ble_eq_true rfl), (Nat.le_of_ble_eq_true rfl)⟩ ⟨(Nat.le_of_ble_eq_true rfl), (Nat.le_of_ble_eq_true rfl)⟩ (fun v g1 hp => ?_)
  obtain ⟨rfl, hg1⟩ := hp
  replace hg1 := hg1.symm
  subst hg1
  exact x_zret hC hr (by have := char_b (f j); rw [char_i] at this; exact congrArg Value.int this) dJ6_charAt_15 (Nat.le_of_ble_eq_true rfl) (Nat.le_of_ble_eq_true rfl) ⟨rfl, rfl⟩
