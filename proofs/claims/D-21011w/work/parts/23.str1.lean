set_option maxHeartbeats 4000000 in
set_option maxRecDepth 100000 in
theorem m_J6_checkIndex_n {l : Launch} {s0 : State} {D : va_G} (h0 : x0 l s0 D) (g : xG) (i n : Int32) (hz : va_Z "jdk/internal/util/Preconditions" "SIOOBE_FORMATTER" "Ljava/util/function/BiFunction;" (.null) (xA0 s0) s0 s0.heap) (h1 : ¬ i < 0) (h2 : i < n) : xMet l s0 D yJ6_checkIndex cJ6_checkIndex 2 none (xr 1 0 0 22) [.int i, .int n] g (fun r g1 => r = none ∧ g1 = g) := by
  refine xMet.of h0 (by decide +kernel) rfl ?_
  intro p e s m args below meth c hC hr hnm
  refine x_iload_n hC dJ6_checkIndex_0 (q := 1) rfl rfl ?_
  refine x_iload_n hC dJ6_checkIndex_1 (q := 2) rfl rfl ?_
  refine x_gets hC hz (Or.inl q432) dJ6_checkIndex_2 (q := 5) rfl ?_
  refine x_callS hC xv_J6_1059 dJ6_checkIndex_5 (q := 8) rfl rfl (m_J10_checkIndex h0 g _ _ h1 h2) rfl (Nat.le_of_ble_eq_true rfl) ⟨(Nat.le_of_ble_eq_true rfl), (Nat.le_of_ble_eq_true rfl)⟩ ⟨(Nat.le_of_ble_eq_true rfl), (Nat.le_of_ble_eq_true rfl)⟩ (fun v g1 hp => ?_)
  obtain ⟨rfl, hg1⟩ := hp
  replace hg1 := hg1.symm
  subst hg1
  refine x_pop hC dJ6_checkIndex_8 (q := 9) rfl rfl ?_
  exact x_vret hC hr dJ6_checkIndex_9 (Nat.le_of_ble_eq_true rfl) (Nat.le_of_ble_eq_true rfl) ⟨rfl, rfl⟩

set_option maxHeartbeats 4000000 in
set_option maxRecDepth 100000 in
theorem m_J6_checkIndex_r {l : Launch} {s0 : State} {D : va_G} (h0 : x0 l s0 D) (g : xG) (i n : Int32) (t : Nat) (hz : va_Z "jdk/internal/util/Preconditions" "SIOOBE_FORMATTER" "Ljava/util/function/BiFunction;" (.ref t) (xA0 s0) s0 s0.heap) (h1 : ¬ i < 0) (h2 : i < n) : xMet l s0 D yJ6_checkIndex cJ6_checkIndex 2 none (xr 1 0 0 22) [.int i, .int n] g (fun r g1 => r = none ∧ g1 = g) := by
  refine xMet.of h0 (by decide +kernel) rfl ?_
  intro p e s m args below meth c hC hr hnm
  refine x_iload_n hC dJ6_checkIndex_0 (q := 1) rfl rfl ?_
  refine x_iload_n hC dJ6_checkIndex_1 (q := 2) rfl rfl ?_
  refine x_gets hC hz (Or.inl q432) dJ6_checkIndex_2 (q := 5) rfl ?_
  refine x_callS hC xv_J6_1059 dJ6_checkIndex_5 (q := 8) rfl rfl (m_J10_checkIndex_r h0 g _ _ t h1 h2) rfl (Nat.le_of_ble_eq_true rfl) ⟨(Nat.le_of_ble_eq_true rfl), (Nat.le_of_ble_eq_true rfl)⟩ ⟨(Nat.le_of_ble_eq_true rfl), (Nat.le_of_ble_eq_true rfl)⟩ (fun v g1 hp => ?_)
  obtain ⟨rfl, hg1⟩ := hp
  replace hg1 := hg1.symm
  subst hg1
  refine x_pop hC dJ6_checkIndex_8 (q := 9) rfl rfl ?_
  exact x_vret hC hr dJ6_checkIndex_9 (Nat.le_of_ble_eq_true rfl) (Nat.le_of_ble_eq_true rfl) ⟨rfl, rfl⟩

theorem m_J6_checkIndex {l : Launch} {s0 : State} {D : va_G} (h0 : x0 l s0 D) (g : xG) (i n : Int32) (h1 : ¬ i < 0) (h2 : i < n) : xMet l s0 D yJ6_checkIndex cJ6_checkIndex 2 none (xr 1 0 0 22) [.int i, .int n] g (fun r g1 => r = none ∧ g1 = g) := by
  rcases xz_sioobe h0 with hz | ⟨t, hz⟩
  · exact m_J6_checkIndex_n h0 g i n hz h1 h2
  · exact m_J6_checkIndex_r h0 g i n t hz h1 h2

set_option maxHeartbeats 4000000 in
set_option maxRecDepth 100000 in
theorem m_J4_charAt {l : Launch} {s0 : State} {D : va_G} (h0 : x0 l s0 D) (g : xG) {n nv : xN} {a v cap cnt j : Nat} {ml i : Int32} {f : Nat → Int32} (hs : g n = some (a, xO 22 [.ref v, .int 0, .int ml, .int (nI cnt)])) (hv : g nv = some (v, xAi .byte cap f)) (hi : i = nI j) (hj : j < cnt) (hc : cnt ≤ cap) (hcap : cap < 2147483648) : xMet l s0 D yJ4_charAt cJ4_charAt 5 (some .char) (xr 2 0 0 43) [.ref a, .int i] g (fun r g1 => r = some (.int (f j &&& 255)) ∧ g1 = g) := by
  refine xMet.of h0 (by decide +kernel) rfl ?_
  intro p e s m args below meth c hC hr hnm
  refine x_aloadr_n hC dJ4_charAt_0 (q := 1) rfl rfl ?_
  refine x_get hC xf_J4_22_22 dJ4_charAt_1 (q := 4) rfl (n := n) hs rfl ?_
  refine x_istore_n hC dJ4_charAt_4 (q := 5) rfl rfl ?_
  refine x_aloadr_n hC dJ4_charAt_5 (q := 6) rfl rfl ?_
  refine x_get hC xf_J4_15_22 dJ4_charAt_6 (q := 9) rfl (n := n) hs rfl ?_
  refine x_astorer_n hC dJ4_charAt_9 (q := 10) rfl rfl ?_
  refine x_aloadr_n hC dJ4_charAt_10 (q := 11) rfl rfl ?_
  refine x_get hC xf_J4_79_22 dJ4_charAt_11 (q := 14) rfl (n := n) hs rfl ?_
  refine x_aloadr_n hC dJ4_charAt_14 (q := 15) rfl rfl ?_
  refine x_alen hC dJ4_charAt_15 (q := 16) rfl (n := nv) hv ?_
  refine x_iload_n hC dJ4_charAt_16 (q := 17) rfl rfl ?_
  refine x_ishr hC dJ4_charAt_17 (q := 18) rfl ?_
  refine x_callS hC xv_J4_138 dJ4_charAt_18 (q := 21) rfl rfl (m_J0_min h0 g _ _) rfl (Nat.le_of_ble_eq_true rfl) ⟨(Nat.le_of_ble_eq_true rfl), (Nat.le_of_ble_eq_true rfl)⟩ ⟨(Nat.le_of_ble_eq_true rfl), (Nat.le_of_ble_eq_true rfl)⟩ (fun v g1 hp => ?_)
  rw [sb_shr0, if_neg (nI_nlt hc (by omega))] at hp
  obtain ⟨rfl, hg1⟩ := hp
  replace hg1 := hg1.symm
  subst hg1
  refine x_istore hC dJ4_charAt_21 (q := 23) rfl rfl ?_
  refine x_iload_n hC dJ4_charAt_23 (q := 24) rfl rfl ?_
  refine x_iload hC dJ4_charAt_24 (q := 26) rfl rfl ?_
  refine x_callS hC xv_J4_144 dJ4_charAt_26 (q := 29) rfl rfl (m_J6_checkIndex h0 g _ _ (by rw [hi]; exact nI_pos (by omega)) (by rw [hi]; exact nI_lt hj (by omega))) rfl (Nat.le_of_ble_eq_true rfl) ⟨(Nat.le_of_ble_eq_true rfl), (Nat.le_of_ble_eq_true rfl)⟩ ⟨(Nat.le_of_ble_eq_true rfl), (Nat.le_of_ble_eq_true rfl)⟩ (fun v g1 hp => ?_)
  obtain ⟨rfl, hg1⟩ := hp
  replace hg1 := hg1.symm
  subst hg1
  refine x_iload_n hC dJ4_charAt_29 (q := 30) rfl rfl ?_
  refine x_if_ne hC dJ4_charAt_30 (q := 33) rfl (tgt := 42) rfl (fun h30 => ?_) (fun h30 => ?_)
  · exact absurd rfl h30
  refine x_aloadr_n hC dJ4_charAt_33 (q := 34) rfl rfl ?_
  refine x_iload_n hC dJ4_charAt_34 (q := 35) rfl rfl ?_
  refine x_bald hC dJ4_charAt_35 (q := 36) rfl (n := nv) hv hi (by omega) hcap ?_
  refine x_sipush hC dJ4_charAt_36 (q := 39) rfl (v := (255)) (by decide) ?_
  refine x_iand hC dJ4_charAt_39 (q := 40) rfl ?_
  refine x_i2c hC dJ4_charAt_40 (q := 41) rfl ?_
  exact x_zret hC hr (by rw [sc_c2]; exact sc_nar _) dJ4_charAt_41 (Nat.le_of_ble_eq_true rfl) (Nat.le_of_ble_eq_true rfl) ⟨by rw [sc_c2], rfl⟩

set_option maxHeartbeats 4000000 in
set_option maxRecDepth 100000 in
theorem m_J5_charAt {l : Launch} {s0 : State} {D : va_G} (h0 : x0 l s0 D) (g : xG) {n nv : xN} {a v cap cnt j : Nat} {ml i : Int32} {f : Nat → Int32} (hs : g n = some (a, xO 22 [.ref v, .int 0, .int ml, .int (nI cnt)])) (hv : g nv = some (v, xAi .byte cap f)) (hi : i = nI j) (hj : j < cnt) (hc : cnt ≤ cap) (hcap : cap < 2147483648) : xMet l s0 D yJ5_charAt cJ5_charAt 2 (some .char) (xr 3 0 0 67) [.ref a, .int i] g (fun r g1 => r = some (.int (f j &&& 255)) ∧ g1 = g) := by
  refine xMet.of h0 (by decide +kernel) rfl ?_
  intro p e s m args below meth c hC hr hnm
  refine x_aloadr_n hC dJ5_charAt_0 (q := 1) rfl rfl ?_
  refine x_iload_n hC dJ5_charAt_1 (q := 2) rfl rfl ?_
  refine x_callSU hC xv_J5_329 dJ5_charAt_2 (q := 5) rfl rfl (m_J4_charAt h0 g hs hv hi hj hc hcap) (nn := n) hs rfl rfl (Nat.le_of_ble_eq_true rfl) ⟨(Nat.le_of_ble_eq_true rfl), (Nat.le_of_ble_eq_true rfl)⟩ ⟨(Nat.le_of_ble_eq_true rfl), (Nat.le_of_ble_eq_true rfl)⟩ (fun v g1 hp => ?_)
  obtain ⟨rfl, hg1⟩ := hp
  replace hg1 := hg1.symm
  subst hg1
  exact x_zret hC hr (sc_nar _) dJ5_charAt_5 (Nat.le_of_ble_eq_true rfl) (Nat.le_of_ble_eq_true rfl) ⟨rfl, rfl⟩
