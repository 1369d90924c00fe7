/-! ArrayList: made, added to -/
theorem xu3 {g : xG} {n nd : xN} (h : n ≠ nd) (x1 y x2 : Option (Nat × xE)) : xu (xu (xu g n x1) nd y) n x2 = xu (xu g nd y) n x2 := by
  funext k
  unfold xu
  by_cases e1 : k = n
  · simp [e1]
  · simp [e1]
theorem xu_cm {g : xG} {n nd : xN} (h : n ≠ nd) (x y : Option (Nat × xE)) : xu (xu g n x) nd y = xu (xu g nd y) n x := by
  funext k
  unfold xu
  by_cases e1 : k = n
  · by_cases e2 : k = nd
    · exact absurd (e1.symm.trans e2) h
    · simp [e1, h]
  · by_cases e2 : k = nd
    · subst e2; simp [e1]
    · simp [e1, e2]
/-- the JDK's shared empty array, as a cell of the start -/
def xE0 (s0 : State) (g : xG) (d0 : Nat) : Prop := va_Z "java/util/ArrayList" "DEFAULTCAPACITY_EMPTY_ELEMENTDATA" "[Ljava/lang/Object;" (.ref d0) (xA0 s0) s0 s0.heap ∧ ∃ f, g (1000, 0) = some (d0, xAr (.object "java/lang/Object") 0 f)

set_option maxHeartbeats 4000000 in
set_option maxRecDepth 100000 in
theorem m_J1_init {l : Launch} {s0 : State} {D : va_G} (h0 : x0 l s0 D) (g : xG) {a : Nat} : xMet l s0 D yJ1_init cJ1_init 1 none (xr 1 0 0 20) [.ref a] g (fun r g1 => r = none ∧ g1 = g) := by
  refine xMet.of h0 (by decide +kernel) rfl ?_
  intro p e s m args below meth c hC hr hnm
  refine x_aloadr_n hC dJ1_init_0 (q := 1) rfl rfl ?_
  refine x_objInit hC q143 q124 q125 dJ1_init_1 (q := 4) rfl (by decide) (Nat.le_of_ble_eq_true rfl) (Nat.le_of_ble_eq_true rfl) ?_
  exact x_vret hC hr dJ1_init_4 (Nat.le_of_ble_eq_true rfl) (Nat.le_of_ble_eq_true rfl) ⟨rfl, rfl⟩

set_option maxHeartbeats 4000000 in
set_option maxRecDepth 100000 in
theorem m_J2_init {l : Launch} {s0 : State} {D : va_G} (h0 : x0 l s0 D) (g : xG) {n : xN} {a : Nat} {mc z : Int32} {v : Value} (hd1 : Nat.blt n.1 1000 = true) (hl : g n = some (a, xO 21 [.int mc, v, .int z])) : xMet l s0 D yJ2_init cJ2_init 1 none (xr 2 0 0 40) [.ref a] g (fun r g1 => r = none ∧ g1 = xu g n (some (a, xO 21 [.int 0, v, .int z]))) := by
  refine xMet.of h0 (by decide +kernel) rfl ?_
  intro p e s m args below meth c hC hr hnm
  refine x_aloadr_n hC dJ2_init_0 (q := 1) rfl rfl ?_
  refine x_callI hC xv_J2_1 dJ2_init_1 (q := 4) rfl rfl (m_J1_init h0 g) rfl (Nat.le_of_ble_eq_true rfl) ⟨(Nat.le_of_ble_eq_true rfl), (Nat.le_of_ble_eq_true rfl)⟩ ⟨(Nat.le_of_ble_eq_true rfl), (Nat.le_of_ble_eq_true rfl)⟩ (fun v g1 hp => ?_)
  obtain ⟨rfl, hg1⟩ := hp
  replace hg1 := hg1.symm
  subst hg1
  refine x_aloadr_n hC dJ2_init_4 (q := 5) rfl rfl ?_
  refine x_iconst hC dJ2_init_5 (q := 6) rfl (v := (0)) (by decide) ?_
  refine x_put hC (n := n) xf_J2_7_21 xd_21 hd1 dJ2_init_6 (q := 9) rfl hl rfl rfl rfl ?_
  exact x_vret hC hr dJ2_init_9 (Nat.le_of_ble_eq_true rfl) (Nat.le_of_ble_eq_true rfl) ⟨rfl, rfl⟩

set_option maxHeartbeats 4000000 in
set_option maxRecDepth 100000 in
theorem m_J3_init {l : Launch} {s0 : State} {D : va_G} (h0 : x0 l s0 D) (g : xG) {n : xN} {a d0 : Nat} (hd1 : Nat.blt n.1 1000 = true) (hl : g n = some (a, xO 21 [.int 0, .null, .int 0])) (hz : xE0 s0 g d0) : xMet l s0 D yJ3_init cJ3_init 1 none (xr 3 0 0 60) [.ref a] g (fun r g1 => r = none ∧ g1 = xu g n (some (a, xO 21 [.int 0, .ref d0, .int 0]))) := by
  refine xMet.of h0 (by decide +kernel) rfl ?_
  intro p e s m args below meth c hC hr hnm
  refine x_aloadr_n hC dJ3_init_0 (q := 1) rfl rfl ?_
  refine x_callI hC xv_J3_1 dJ3_init_1 (q := 4) rfl rfl (m_J2_init h0 g hd1 hl) rfl (Nat.le_of_ble_eq_true rfl) ⟨(Nat.le_of_ble_eq_true rfl), (Nat.le_of_ble_eq_true rfl)⟩ ⟨(Nat.le_of_ble_eq_true rfl), (Nat.le_of_ble_eq_true rfl)⟩ (fun v g1 hp => ?_)
  obtain ⟨rfl, hg1⟩ := hp
  replace hg1 := hg1.symm
  subst hg1
  refine x_aloadr_n hC dJ3_init_4 (q := 5) rfl rfl ?_
  refine x_gets hC hz.1 (Or.inl q144) dJ3_init_5 (q := 8) rfl ?_
  refine x_put hC (n := n) xf_J3_9_21 xd_21 hd1 dJ3_init_8 (q := 11) rfl (xu_eq _ _ _) rfl rfl rfl ?_
  exact x_vret hC hr dJ3_init_11 (Nat.le_of_ble_eq_true rfl) (Nat.le_of_ble_eq_true rfl) ⟨rfl, by rw [xu_xu]; rfl⟩

set_option maxHeartbeats 4000000 in
set_option maxRecDepth 100000 in
theorem m_J3_add_2_A {l : Launch} {s0 : State} {D : va_G} (h0 : x0 l s0 D) (g : xG) {n nd n2 : xN} {a d v N sz : Nat} {mc : Int32} {x : xE} {f : Nat → Option Nat} (hd1 : Nat.blt n.1 1000 = true) (hd2 : Nat.blt nd.1 1000 = true) (hd3 : Nat.blt n2.1 1000 = true) (hne : n ≠ nd) (hl : g n = some (a, xO 21 [.int mc, .ref d, .int (nI sz)])) (ha : g nd = some (d, xAr (.object "java/lang/Object") N f)) (he : g n2 = some (v, x)) (hx : Cond.castable (xnm x) "java/lang/Object" ∈ lw_tbl) (hs : sz < N) (hN : N < 2147483648) : xMet l s0 D yJ3_add_2 cJ3_add_2 4 none (xr 8 0 0 300) [.ref a, .ref v, .ref d, .int (nI sz)] g (fun r g1 => r = none ∧ g1 = xu (xu g nd (some (d, xAr (.object "java/lang/Object") N (va_up f sz (some v))))) n (some (a, xO 21 [.int mc, .ref d, .int (nI (sz + 1))]))) := by
  refine xMet.of h0 (by decide +kernel) rfl ?_
  intro p e s m args below meth c hC hr hnm
  refine x_iload_n hC dJ3_add_2_0 (q := 1) rfl rfl ?_
  refine x_aloadr_n hC dJ3_add_2_1 (q := 2) rfl rfl ?_
  refine x_alen hC dJ3_add_2_2 (q := 3) rfl (n := nd) ha ?_
  refine x_icmp_ne hC dJ3_add_2_3 (q := 6) rfl (tgt := 11) rfl (fun h3 => ?_) (fun h3 => ?_)
  · refine x_aloadr_n hC dJ3_add_2_11 (q := 12) rfl rfl ?_
    refine x_iload_n hC dJ3_add_2_12 (q := 13) rfl rfl ?_
    refine x_aloadr_n hC dJ3_add_2_13 (q := 14) rfl rfl ?_
    refine x_aast hC dJ3_add_2_14 (q := 15) rfl (n := nd) (n2 := n2) hd2 ha hd3 he (Or.inl hx) rfl hs hN ?_
    refine x_aloadr_n hC dJ3_add_2_15 (q := 16) rfl rfl ?_
    refine x_iload_n hC dJ3_add_2_16 (q := 17) rfl rfl ?_
    refine x_iconst hC dJ3_add_2_17 (q := 18) rfl (v := (1)) (by decide) ?_
    refine x_iadd hC dJ3_add_2_18 (q := 19) rfl ?_
    refine x_put hC (n := n) xf_J3_48_21 xd_21 hd1 dJ3_add_2_19 (q := 22) rfl (by rw [xu_ne hne]; exact hl) rfl rfl rfl ?_
    exact x_vret hC hr dJ3_add_2_22 (Nat.le_of_ble_eq_true rfl) (Nat.le_of_ble_eq_true rfl) ⟨rfl, by rw [nI_1]; rfl⟩
  · exact absurd h3 (fun q => by dsimp only at q; have := (nI_eq (by omega) (by omega)).mp q; omega)

set_option maxHeartbeats 4000000 in
set_option maxRecDepth 100000 in
theorem m_J3_add_A {l : Launch} {s0 : State} {D : va_G} (h0 : x0 l s0 D) (g : xG) {n nd n2 : xN} {a d v N sz : Nat} {mc : Int32} {x : xE} {f : Nat → Option Nat} (hd1 : Nat.blt n.1 1000 = true) (hd2 : Nat.blt nd.1 1000 = true) (hd3 : Nat.blt n2.1 1000 = true) (hne : n ≠ nd) (hn2 : n2 ≠ n) (hl : g n = some (a, xO 21 [.int mc, .ref d, .int (nI sz)])) (ha : g nd = some (d, xAr (.object "java/lang/Object") N f)) (he : g n2 = some (v, x)) (hx : Cond.castable (xnm x) "java/lang/Object" ∈ lw_tbl) (hs : sz < N) (hN : N < 2147483648) : xMet l s0 D yJ3_add cJ3_add 2 (some .boolean) (xr 9 0 0 330) [.ref a, .ref v] g (fun r g1 => r = some (.int 1) ∧ g1 = xu (xu g nd (some (d, xAr (.object "java/lang/Object") N (va_up f sz (some v))))) n (some (a, xO 21 [.int (mc + 1), .ref d, .int (nI (sz + 1))]))) := by
  refine xMet.of h0 (by decide +kernel) rfl ?_
  intro p e s m args below meth c hC hr hnm
  refine x_aloadr_n hC dJ3_add_0 (q := 1) rfl rfl ?_
  refine x_dup hC dJ3_add_1 (q := 2) rfl rfl ?_
  refine x_get hC xf_J3_63_21 dJ3_add_2 (q := 5) rfl (n := n) hl rfl ?_
  refine x_iconst hC dJ3_add_5 (q := 6) rfl (v := (1)) (by decide) ?_
  refine x_iadd hC dJ3_add_6 (q := 7) rfl ?_
  refine x_put hC (n := n) xf_J3_63_21 xd_21 hd1 dJ3_add_7 (q := 10) rfl hl rfl rfl rfl ?_
  refine x_aloadr_n hC dJ3_add_10 (q := 11) rfl rfl ?_
  refine x_aloadr_n hC dJ3_add_11 (q := 12) rfl rfl ?_
  refine x_aloadr_n hC dJ3_add_12 (q := 13) rfl rfl ?_
  refine x_get hC xf_J3_9_21 dJ3_add_13 (q := 16) rfl (n := n) (xu_eq _ _ _) rfl ?_
  refine x_aloadr_n hC dJ3_add_16 (q := 17) rfl rfl ?_
  refine x_get hC xf_J3_48_21 dJ3_add_17 (q := 20) rfl (n := n) (xu_eq _ _ _) rfl ?_
  refine x_callV hC xv_J3_131 dJ3_add_20 (q := 23) rfl rfl (m_J3_add_2_A h0 _ (n := n) (nd := nd) (n2 := n2) hd1 hd2 hd3 hne (xu_eq _ _ _) (by rw [xu_ne hne.symm]; exact ha) (by rw [xu_ne hn2]; exact he) hx hs hN) (nn := n) (xu_eq _ _ _) rfl rfl (Nat.le_of_ble_eq_true rfl) ⟨(Nat.le_of_ble_eq_true rfl), (Nat.le_of_ble_eq_true rfl)⟩ ⟨(Nat.le_of_ble_eq_true rfl), (Nat.le_of_ble_eq_true rfl)⟩ (fun v g1 hp => ?_)
  obtain ⟨rfl, hg1⟩ := hp
  replace hg1 := hg1.symm
  subst hg1
  refine x_iconst hC dJ3_add_23 (q := 24) rfl (v := (1)) (by decide) ?_
  exact x_zret hC hr rfl dJ3_add_24 (Nat.le_of_ble_eq_true rfl) (Nat.le_of_ble_eq_true rfl) ⟨rfl, by rw [xu3 hne]⟩

set_option maxHeartbeats 4000000 in
set_option maxRecDepth 100000 in
theorem m_J3_grow_2_B {l : Launch} {s0 : State} {D : va_G} (h0 : x0 l s0 D) (g : xG) {n nd : xN} {a d0 : Nat} {mc : Int32} (hd1 : Nat.blt n.1 1000 = true) (hd2 : Nat.blt nd.1 1000 = true) (hne : n ≠ nd) (hl : g n = some (a, xO 21 [.int mc, .ref d0, .int 0])) (hnd : g nd = none) (hz : xE0 s0 g d0) : xMet l s0 D yJ3_grow_2 cJ3_grow_2 4 (some (.array (.object "java/lang/Object"))) (xr 6 1 10 220) [.ref a, .int 1] g (fun r g1 => ∃ d1, r = some (.ref d1) ∧ g1 = xu (xu g nd (some (d1, xAr (.object "java/lang/Object") 10 (fun _ => none)))) n (some (a, xO 21 [.int mc, .ref d1, .int 0]))) := by
  refine xMet.of h0 (by decide +kernel) rfl ?_
  intro p e s m args below meth c hC hr hnm
  obtain ⟨hz1, fe, hz2⟩ := hz
  refine x_aloadr_n hC dJ3_grow_2_0 (q := 1) rfl rfl ?_
  refine x_get hC xf_J3_9_21 dJ3_grow_2_1 (q := 4) rfl (n := n) hl rfl ?_
  refine x_alen hC dJ3_grow_2_4 (q := 5) rfl (n := (1000, 0)) hz2 ?_
  refine x_istore_n hC dJ3_grow_2_5 (q := 6) rfl rfl ?_
  refine x_iload_n hC dJ3_grow_2_6 (q := 7) rfl rfl ?_
  refine x_if_gt hC dJ3_grow_2_7 (q := 10) rfl (tgt := 20) rfl (fun h7 => ?_) (fun h7 => ?_)
  · exact absurd h7 (by dsimp only; decide)
  refine x_aloadr_n hC dJ3_grow_2_10 (q := 11) rfl rfl ?_
  refine x_get hC xf_J3_9_21 dJ3_grow_2_11 (q := 14) rfl (n := n) hl rfl ?_
  refine x_gets hC hz1 (Or.inl q144) dJ3_grow_2_14 (q := 17) rfl ?_
  refine x_acmp_eq (rx := some d0) (ry := some d0) hC dJ3_grow_2_17 (q := 20) rfl (tgt := 45) rfl (fun h17 => ?_) (fun h17 => ?_)
  · refine x_aloadr_n hC dJ3_grow_2_45 (q := 46) rfl rfl ?_
    refine x_bipush hC dJ3_grow_2_46 (q := 48) rfl (v := (10)) (by decide) ?_
    refine x_iload_n hC dJ3_grow_2_48 (q := 49) rfl rfl ?_
    refine x_callS hC xv_J3_79 dJ3_grow_2_49 (q := 52) rfl rfl (m_J0_max h0 g _ _) rfl (Nat.le_of_ble_eq_true rfl) ⟨(Nat.le_of_ble_eq_true rfl), (Nat.le_of_ble_eq_true rfl)⟩ ⟨(Nat.le_of_ble_eq_true rfl), (Nat.le_of_ble_eq_true rfl)⟩ (fun v g1 hp => ?_)
    obtain ⟨rfl, hg1⟩ := hp
    replace hg1 := hg1.symm
    subst hg1
    refine x_anew hC (N := 10) nd q748 q739 dJ3_grow_2_52 (q := 55) rfl hd2 hnd (by decide) (by decide) (Nat.le_of_ble_eq_true rfl) (Nat.le_of_ble_eq_true rfl) (fun a_52 => ?_)
    refine x_dup_x1 hC dJ3_grow_2_55 (q := 56) rfl rfl rfl ?_
    refine x_put hC (n := n) xf_J3_9_21 xd_21 hd1 dJ3_grow_2_56 (q := 59) rfl (by rw [xu_ne hne]; exact hl) rfl rfl rfl ?_
    exact x_aret hC hr (Or.inr ⟨_, rfl⟩) (Or.inr ⟨_, rfl⟩) dJ3_grow_2_59 (Nat.le_of_ble_eq_true rfl) (Nat.le_of_ble_eq_true rfl) ⟨_, rfl, rfl⟩
  · exact absurd rfl h17

set_option maxHeartbeats 4000000 in
set_option maxRecDepth 100000 in
theorem m_J3_grow_B {l : Launch} {s0 : State} {D : va_G} (h0 : x0 l s0 D) (g : xG) {n nd : xN} {a d0 : Nat} {mc : Int32} (hd1 : Nat.blt n.1 1000 = true) (hd2 : Nat.blt nd.1 1000 = true) (hne : n ≠ nd) (hl : g n = some (a, xO 21 [.int mc, .ref d0, .int 0])) (hnd : g nd = none) (hz : xE0 s0 g d0) : xMet l s0 D yJ3_grow cJ3_grow 1 (some (.array (.object "java/lang/Object"))) (xr 7 1 10 250) [.ref a] g (fun r g1 => ∃ d1, r = some (.ref d1) ∧ g1 = xu (xu g nd (some (d1, xAr (.object "java/lang/Object") 10 (fun _ => none)))) n (some (a, xO 21 [.int mc, .ref d1, .int 0]))) := by
  refine xMet.of h0 (by decide +kernel) rfl ?_
  intro p e s m args below meth c hC hr hnm
  refine x_aloadr_n hC dJ3_grow_0 (q := 1) rfl rfl ?_
  refine x_aloadr_n hC dJ3_grow_1 (q := 2) rfl rfl ?_
  refine x_get hC xf_J3_48_21 dJ3_grow_2 (q := 5) rfl (n := n) hl rfl ?_
  refine x_iconst hC dJ3_grow_5 (q := 6) rfl (v := (1)) (by decide) ?_
  refine x_iadd hC dJ3_grow_6 (q := 7) rfl ?_
  refine x_callV hC xv_J3_69 dJ3_grow_7 (q := 10) rfl rfl (m_J3_grow_2_B h0 g hd1 hd2 hne hl hnd hz) (nn := n) hl rfl rfl (Nat.le_of_ble_eq_true rfl) ⟨(Nat.le_of_ble_eq_true rfl), (Nat.le_of_ble_eq_true rfl)⟩ ⟨(Nat.le_of_ble_eq_true rfl), (Nat.le_of_ble_eq_true rfl)⟩ (fun v g1 hp => ?_)
  obtain ⟨d1, rfl, hg1⟩ := hp
  replace hg1 := hg1.symm
  subst hg1
  exact x_aret hC hr (Or.inr ⟨_, rfl⟩) (Or.inr ⟨_, rfl⟩) dJ3_grow_10 (Nat.le_of_ble_eq_true rfl) (Nat.le_of_ble_eq_true rfl) ⟨_, rfl, rfl⟩

set_option maxHeartbeats 4000000 in
set_option maxRecDepth 100000 in
theorem m_J3_add_2_B {l : Launch} {s0 : State} {D : va_G} (h0 : x0 l s0 D) (g : xG) {n nd n2 : xN} {a d0 v : Nat} {mc : Int32} {x : xE} (hd1 : Nat.blt n.1 1000 = true) (hd2 : Nat.blt nd.1 1000 = true) (hd3 : Nat.blt n2.1 1000 = true) (hne : n ≠ nd) (hn2 : n2 ≠ n) (hn3 : n2 ≠ nd) (hl : g n = some (a, xO 21 [.int mc, .ref d0, .int 0])) (hnd : g nd = none) (hz : xE0 s0 g d0) (he : g n2 = some (v, x)) (hx : Cond.castable (xnm x) "java/lang/Object" ∈ lw_tbl) : xMet l s0 D yJ3_add_2 cJ3_add_2 4 none (xr 8 1 10 300) [.ref a, .ref v, .ref d0, .int 0] g (fun r g1 => ∃ d1, r = none ∧ g1 = xu (xu g nd (some (d1, xAr (.object "java/lang/Object") 10 (va_up (fun _ => none) 0 (some v))))) n (some (a, xO 21 [.int mc, .ref d1, .int 1]))) := by
  refine xMet.of h0 (by decide +kernel) rfl ?_
  intro p e s m args below meth c hC hr hnm
  obtain ⟨fe, hz2⟩ := hz.2
  refine x_iload_n hC dJ3_add_2_0 (q := 1) rfl rfl ?_
  refine x_aloadr_n hC dJ3_add_2_1 (q := 2) rfl rfl ?_
  refine x_alen hC dJ3_add_2_2 (q := 3) rfl (n := (1000, 0)) hz2 ?_
  refine x_icmp_ne hC dJ3_add_2_3 (q := 6) rfl (tgt := 11) rfl (fun h3 => ?_) (fun h3 => ?_)
  · exact absurd rfl h3
  refine x_aloadr_n hC dJ3_add_2_6 (q := 7) rfl rfl ?_
  refine x_callV hC xv_J3_129 dJ3_add_2_7 (q := 10) rfl rfl (m_J3_grow_B h0 g hd1 hd2 hne hl hnd hz) (nn := n) hl rfl rfl (Nat.le_of_ble_eq_true rfl) ⟨(Nat.le_of_ble_eq_true rfl), (Nat.le_of_ble_eq_true rfl)⟩ ⟨(Nat.le_of_ble_eq_true rfl), (Nat.le_of_ble_eq_true rfl)⟩ (fun v g1 hp => ?_)
  obtain ⟨d1, rfl, hg1⟩ := hp
  replace hg1 := hg1.symm
  subst hg1
  refine x_astorer_n hC dJ3_add_2_10 (q := 11) rfl rfl ?_
  refine x_aloadr_n hC dJ3_add_2_11 (q := 12) rfl rfl ?_
  refine x_iload_n hC dJ3_add_2_12 (q := 13) rfl rfl ?_
  refine x_aloadr_n hC dJ3_add_2_13 (q := 14) rfl rfl ?_
  refine x_aast hC dJ3_add_2_14 (q := 15) rfl (n := nd) (n2 := n2) hd2 (by rw [xu_ne hne.symm, xu_eq]) hd3 (by rw [xu_ne hn2, xu_ne hn3]; exact he) (Or.inl hx) (j := 0) rfl (by decide) (by decide) ?_
  refine x_aloadr_n hC dJ3_add_2_15 (q := 16) rfl rfl ?_
  refine x_iload_n hC dJ3_add_2_16 (q := 17) rfl rfl ?_
  refine x_iconst hC dJ3_add_2_17 (q := 18) rfl (v := (1)) (by decide) ?_
  refine x_iadd hC dJ3_add_2_18 (q := 19) rfl ?_
  refine x_put hC (n := n) xf_J3_48_21 xd_21 hd1 dJ3_add_2_19 (q := 22) rfl (by rw [xu_ne hne, xu_eq]) rfl rfl rfl ?_
  exact x_vret hC hr dJ3_add_2_22 (Nat.le_of_ble_eq_true rfl) (Nat.le_of_ble_eq_true rfl) ⟨d1, rfl, by rw [xu3 hne, xu_xu]; rfl⟩

set_option maxHeartbeats 4000000 in
set_option maxRecDepth 100000 in
theorem m_J3_add_B {l : Launch} {s0 : State} {D : va_G} (h0 : x0 l s0 D) (g : xG) {n nd n2 : xN} {a d0 v : Nat} {mc : Int32} {x : xE} (hd1 : Nat.blt n.1 1000 = true) (hd2 : Nat.blt nd.1 1000 = true) (hd3 : Nat.blt n2.1 1000 = true) (hne : n ≠ nd) (hn2 : n2 ≠ n) (hn3 : n2 ≠ nd) (hn0 : n ≠ (1000, 0)) (hl : g n = some (a, xO 21 [.int mc, .ref d0, .int 0])) (hnd : g nd = none) (hz : xE0 s0 g d0) (he : g n2 = some (v, x)) (hx : Cond.castable (xnm x) "java/lang/Object" ∈ lw_tbl) : xMet l s0 D yJ3_add cJ3_add 2 (some .boolean) (xr 9 1 10 330) [.ref a, .ref v] g (fun r g1 => ∃ d1, r = some (.int 1) ∧ g1 = xu (xu g nd (some (d1, xAr (.object "java/lang/Object") 10 (va_up (fun _ => none) 0 (some v))))) n (some (a, xO 21 [.int (mc + 1), .ref d1, .int 1]))) := by
  refine xMet.of h0 (by decide +kernel) rfl ?_
  intro p e s m args below meth c hC hr hnm
  refine x_aloadr_n hC dJ3_add_0 (q := 1) rfl rfl ?_
  refine x_dup hC dJ3_add_1 (q := 2) rfl rfl ?_
  refine x_get hC xf_J3_63_21 dJ3_add_2 (q := 5) rfl (n := n) hl rfl ?_
  refine x_iconst hC dJ3_add_5 (q := 6) rfl (v := (1)) (by decide) ?_
  refine x_iadd hC dJ3_add_6 (q := 7) rfl ?_
  refine x_put hC (n := n) xf_J3_63_21 xd_21 hd1 dJ3_add_7 (q := 10) rfl hl rfl rfl rfl ?_
  refine x_aloadr_n hC dJ3_add_10 (q := 11) rfl rfl ?_
  refine x_aloadr_n hC dJ3_add_11 (q := 12) rfl rfl ?_
  refine x_aloadr_n hC dJ3_add_12 (q := 13) rfl rfl ?_
  refine x_get hC xf_J3_9_21 dJ3_add_13 (q := 16) rfl (n := n) (xu_eq _ _ _) rfl ?_
  refine x_aloadr_n hC dJ3_add_16 (q := 17) rfl rfl ?_
  refine x_get hC xf_J3_48_21 dJ3_add_17 (q := 20) rfl (n := n) (xu_eq _ _ _) rfl ?_
  refine x_callV hC xv_J3_131 dJ3_add_20 (q := 23) rfl rfl (m_J3_add_2_B h0 _ (n := n) (nd := nd) (n2 := n2) hd1 hd2 hd3 hne hn2 hn3 (xu_eq _ _ _) (by rw [xu_ne hne.symm]; exact hnd) ⟨hz.1, by obtain ⟨fe, hz2⟩ := hz.2; exact ⟨fe, by rw [xu_ne hn0.symm]; exact hz2⟩⟩ (by rw [xu_ne hn2]; exact he) hx) (nn := n) (xu_eq _ _ _) rfl rfl (Nat.le_of_ble_eq_true rfl) ⟨(Nat.le_of_ble_eq_true rfl), (Nat.le_of_ble_eq_true rfl)⟩ ⟨(Nat.le_of_ble_eq_true rfl), (Nat.le_of_ble_eq_true rfl)⟩ (fun v g1 hp => ?_)
  obtain ⟨d1, rfl, hg1⟩ := hp
  replace hg1 := hg1.symm
  subst hg1
  refine x_iconst hC dJ3_add_23 (q := 24) rfl (v := (1)) (by decide) ?_
  exact x_zret hC hr rfl dJ3_add_24 (Nat.le_of_ble_eq_true rfl) (Nat.le_of_ble_eq_true rfl) ⟨d1, rfl, by rw [xu3 hne]⟩
