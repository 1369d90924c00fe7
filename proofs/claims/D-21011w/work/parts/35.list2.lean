/-! ArrayList: growth, removal, clear -/
set_option maxHeartbeats 4000000 in
set_option maxRecDepth 100000 in
theorem m_J8_newLength_10 {l : Launch} {s0 : State} {D : va_G} (h0 : x0 l s0 D) (g : xG) : xMet l s0 D yJ8_newLength cJ8_newLength 4 (some .int) (xr 1 0 0 30) [.int 10, .int 1, .int 5] g (fun r g1 => r = some (.int 15) ∧ g1 = g) := by
  refine xMet.of h0 (by decide +kernel) rfl ?_
  intro p e s m args below meth c hC hr hnm
  refine x_iload_n hC dJ8_newLength_0 (q := 1) rfl rfl ?_
  refine x_iload_n hC dJ8_newLength_1 (q := 2) rfl rfl ?_
  refine x_iload_n hC dJ8_newLength_2 (q := 3) rfl rfl ?_
  refine x_callS hC xv_J8_194 dJ8_newLength_3 (q := 6) rfl rfl (m_J0_max h0 g _ _) rfl (Nat.le_of_ble_eq_true rfl) ⟨(Nat.le_of_ble_eq_true rfl), (Nat.le_of_ble_eq_true rfl)⟩ ⟨(Nat.le_of_ble_eq_true rfl), (Nat.le_of_ble_eq_true rfl)⟩ (fun v g1 hp => ?_)
  obtain ⟨rfl, hg1⟩ := hp
  replace hg1 := hg1.symm
  subst hg1
  refine x_iadd hC dJ8_newLength_6 (q := 7) rfl ?_
  refine x_istore_n hC dJ8_newLength_7 (q := 8) rfl rfl ?_
  refine x_iconst hC dJ8_newLength_8 (q := 9) rfl (v := (0)) (by decide) ?_
  refine x_iload_n hC dJ8_newLength_9 (q := 10) rfl rfl ?_
  refine x_icmp_ge hC dJ8_newLength_10 (q := 13) rfl (tgt := 21) rfl (fun h10 => ?_) (fun h10 => ?_)
  · exact absurd h10 (by decide)
  refine x_iload_n hC dJ8_newLength_13 (q := 14) rfl rfl ?_
  refine x_ldc hC dJ8_newLength_14 (q := 16) rfl q699 ?_
  refine x_icmp_gt hC dJ8_newLength_16 (q := 19) rfl (tgt := 21) rfl (fun h16 => ?_) (fun h16 => ?_)
  · exact absurd h16 (by decide)
  refine x_iload_n hC dJ8_newLength_19 (q := 20) rfl rfl ?_
  exact x_iret hC hr dJ8_newLength_20 (Nat.le_of_ble_eq_true rfl) (Nat.le_of_ble_eq_true rfl) ⟨by decide, rfl⟩

set_option maxHeartbeats 4000000 in
set_option maxRecDepth 100000 in
theorem m_J9_copyOf_2_10 {l : Launch} {s0 : State} {D : va_G} (h0 : x0 l s0 D) (g : xG) {nd nt : xN} {d mi : Nat} {f : Nat → Option Nat} (hM : va_Mi "[Ljava/lang/Object;" mi s0) (hd2 : Nat.blt nd.1 1000 = true) (hdt : Nat.blt nt.1 1000 = true) (ha : g nd = some (d, xAr (.object "java/lang/Object") 10 f)) (hnt : g nt = none) (hel : ∀ t, t < 10 → ∀ y, f t = some y → ∃ (n2 : xN) (x : xE), Nat.blt n2.1 1000 = true ∧ g n2 = some (y, x) ∧ Cond.castable (xnm x) "java/lang/Object" ∈ lw_tbl) : xMet l s0 D yJ9_copyOf_2 cJ9_copyOf_2 4 (some (.array (.object "java/lang/Object"))) (xr 1 1 15 60) [.ref d, .int 15, .ref mi] g (fun r g1 => ∃ d1, r = some (.ref d1) ∧ g1 = xu g nt (some (d1, xAr (.object "java/lang/Object") 15 (va_cpy f (fun _ => none) 0 0 10)))) := by
  refine xMet.of h0 (by decide +kernel) rfl ?_
  intro p e s m args below meth c hC hr hnm
  refine x_aloadr_n hC dJ9_copyOf_2_0 (q := 1) rfl rfl ?_
  refine x_ldcM hC q738 hM dJ9_copyOf_2_1 (q := 3) rfl ?_
  refine x_acmp_ne (rx := some mi) (ry := some mi) hC dJ9_copyOf_2_3 (q := 6) rfl (tgt := 13) rfl (fun h3 => ?_) (fun h3 => ?_)
  · exact absurd rfl h3
  refine x_iload_n hC dJ9_copyOf_2_6 (q := 7) rfl rfl ?_
  refine x_anew hC (N := 15) nt q740 q739 dJ9_copyOf_2_7 (q := 10) rfl hdt hnt rfl (by decide) (Nat.le_of_ble_eq_true rfl) (Nat.le_of_ble_eq_true rfl) (fun a_7 => ?_)
  refine x_goto hC dJ9_copyOf_2_10 (tgt := 24) rfl ?_
  refine x_astorer_n hC dJ9_copyOf_2_24 (q := 25) rfl rfl ?_
  have hne : nd ≠ nt := fun q => by rw [q, hnt] at ha; cases ha
  refine x_aloadr_n hC dJ9_copyOf_2_25 (q := 26) rfl rfl ?_
  refine x_iconst hC dJ9_copyOf_2_26 (q := 27) rfl (v := (0)) (by decide) ?_
  refine x_aloadr_n hC dJ9_copyOf_2_27 (q := 28) rfl rfl ?_
  refine x_iconst hC dJ9_copyOf_2_28 (q := 29) rfl (v := (0)) (by decide) ?_
  refine x_aloadr_n hC dJ9_copyOf_2_29 (q := 30) rfl rfl ?_
  refine x_alen hC dJ9_copyOf_2_30 (q := 31) rfl (n := nd) (by rw [xu_ne hne]; exact ha) ?_
  refine x_iload_n hC dJ9_copyOf_2_31 (q := 32) rfl rfl ?_
  refine x_callS hC xv_J9_304 dJ9_copyOf_2_32 (q := 35) rfl rfl (m_J0_min h0 _ _ _) rfl (Nat.le_of_ble_eq_true rfl) ⟨(Nat.le_of_ble_eq_true rfl), (Nat.le_of_ble_eq_true rfl)⟩ ⟨(Nat.le_of_ble_eq_true rfl), (Nat.le_of_ble_eq_true rfl)⟩ (fun v g1 hp => ?_)
  obtain ⟨rfl, hg1⟩ := hp
  replace hg1 := hg1.symm
  subst hg1
  refine x_copyR hC q744 dJ9_copyOf_2_35 (q := 38) rfl (n0 := nd) (n1 := nt) (i := 0) (j := 0) (k := 10) (by rw [xu_ne hne]; exact ha) hdt (xu_eq _ _ _) rfl rfl (if_neg (show ¬ (15 : Int32) < nI 10 by decide)) (by decide) (by decide) (by decide) (by decide) (fun t ht y hy => ?_) (Nat.le_of_ble_eq_true rfl) (Nat.le_of_ble_eq_true rfl) ?_
  · rw [Nat.zero_add] at hy
    obtain ⟨n2, x, e1, e2, e3⟩ := hel t ht y hy
    exact ⟨n2, x, e1, by rw [xu_ne (fun q => by rw [q, hnt] at e2; cases e2)]; exact e2, e3⟩
  refine x_aloadr_n hC dJ9_copyOf_2_38 (q := 39) rfl rfl ?_
  exact x_aret hC hr (Or.inr ⟨_, rfl⟩) (Or.inr ⟨_, rfl⟩) dJ9_copyOf_2_39 (Nat.le_of_ble_eq_true rfl) (Nat.le_of_ble_eq_true rfl) ⟨_, rfl, by rw [xu_xu]⟩

set_option maxHeartbeats 4000000 in
set_option maxRecDepth 100000 in
theorem m_J9_copyOf_10 {l : Launch} {s0 : State} {D : va_G} (h0 : x0 l s0 D) (g : xG) {nd nt : xN} {d mi : Nat} {f : Nat → Option Nat} (hM : va_Mi "[Ljava/lang/Object;" mi s0) (hd2 : Nat.blt nd.1 1000 = true) (hdt : Nat.blt nt.1 1000 = true) (ha : g nd = some (d, xAr (.object "java/lang/Object") 10 f)) (hnt : g nt = none) (hel : ∀ t, t < 10 → ∀ y, f t = some y → ∃ (n2 : xN) (x : xE), Nat.blt n2.1 1000 = true ∧ g n2 = some (y, x) ∧ Cond.castable (xnm x) "java/lang/Object" ∈ lw_tbl) : xMet l s0 D yJ9_copyOf cJ9_copyOf 2 (some (.array (.object "java/lang/Object"))) (xr 2 1 15 90) [.ref d, .int 15] g (fun r g1 => ∃ d1, r = some (.ref d1) ∧ g1 = xu g nt (some (d1, xAr (.object "java/lang/Object") 15 (va_cpy f (fun _ => none) 0 0 10)))) := by
  refine xMet.of h0 (by decide +kernel) rfl ?_
  intro p e s m args below meth c hC hr hnm
  refine x_aloadr_n hC dJ9_copyOf_0 (q := 1) rfl rfl ?_
  refine x_iload_n hC dJ9_copyOf_1 (q := 2) rfl rfl ?_
  refine x_aloadr_n hC dJ9_copyOf_2 (q := 3) rfl rfl ?_
  refine x_getCA hC q706 hM dJ9_copyOf_3 (q := 6) rfl hd2 ha (Nat.le_of_ble_eq_true rfl) (Nat.le_of_ble_eq_true rfl) ?_
  refine x_callS hC xv_J9_300 dJ9_copyOf_6 (q := 9) rfl rfl (m_J9_copyOf_2_10 h0 g hM hd2 hdt ha hnt hel) rfl (Nat.le_of_ble_eq_true rfl) ⟨(Nat.le_of_ble_eq_true rfl), (Nat.le_of_ble_eq_true rfl)⟩ ⟨(Nat.le_of_ble_eq_true rfl), (Nat.le_of_ble_eq_true rfl)⟩ (fun v g1 hp => ?_)
  obtain ⟨d1, rfl, hg1⟩ := hp
  replace hg1 := hg1.symm
  subst hg1
  exact x_aret hC hr (Or.inr ⟨_, rfl⟩) (Or.inr ⟨_, rfl⟩) dJ9_copyOf_9 (Nat.le_of_ble_eq_true rfl) (Nat.le_of_ble_eq_true rfl) ⟨_, rfl, rfl⟩

set_option maxHeartbeats 4000000 in
set_option maxRecDepth 100000 in
theorem m_J3_grow_2_10 {l : Launch} {s0 : State} {D : va_G} (h0 : x0 l s0 D) (g : xG) {n nd nt : xN} {a d mi : Nat} {mc : Int32} {f : Nat → Option Nat} (hM : va_Mi "[Ljava/lang/Object;" mi s0) (hd1 : Nat.blt n.1 1000 = true) (hd2 : Nat.blt nd.1 1000 = true) (hdt : Nat.blt nt.1 1000 = true) (hne : n ≠ nd) (hl : g n = some (a, xO 21 [.int mc, .ref d, .int 10])) (ha : g nd = some (d, xAr (.object "java/lang/Object") 10 f)) (hnt : g nt = none) (hel : ∀ t, t < 10 → ∀ y, f t = some y → ∃ (n2 : xN) (x : xE), Nat.blt n2.1 1000 = true ∧ g n2 = some (y, x) ∧ Cond.castable (xnm x) "java/lang/Object" ∈ lw_tbl) : xMet l s0 D yJ3_grow_2 cJ3_grow_2 4 (some (.array (.object "java/lang/Object"))) (xr 6 1 15 220) [.ref a, .int 11] g (fun r g1 => ∃ d1, r = some (.ref d1) ∧ g1 = xu (xu g nd (some (d1, xAr (.object "java/lang/Object") 15 (va_cpy f (fun _ => none) 0 0 10)))) n (some (a, xO 21 [.int mc, .ref d1, .int 10]))) := by
  refine xMet.of h0 (by decide +kernel) rfl ?_
  intro p e s m args below meth c hC hr hnm
  refine x_aloadr_n hC dJ3_grow_2_0 (q := 1) rfl rfl ?_
  refine x_get hC xf_J3_9_21 dJ3_grow_2_1 (q := 4) rfl (n := n) hl rfl ?_
  refine x_alen hC dJ3_grow_2_4 (q := 5) rfl (n := nd) ha ?_
  refine x_istore_n hC dJ3_grow_2_5 (q := 6) rfl rfl ?_
  refine x_iload_n hC dJ3_grow_2_6 (q := 7) rfl rfl ?_
  refine x_if_gt hC dJ3_grow_2_7 (q := 10) rfl (tgt := 20) rfl (fun h7 => ?_) (fun h7 => ?_)
  · refine x_iload_n hC dJ3_grow_2_20 (q := 21) rfl rfl ?_
    refine x_iload_n hC dJ3_grow_2_21 (q := 22) rfl rfl ?_
    refine x_iload_n hC dJ3_grow_2_22 (q := 23) rfl rfl ?_
    refine x_isub hC dJ3_grow_2_23 (q := 24) rfl ?_
    refine x_iload_n hC dJ3_grow_2_24 (q := 25) rfl rfl ?_
    refine x_iconst hC dJ3_grow_2_25 (q := 26) rfl (v := (1)) (by decide) ?_
    refine x_ishr hC dJ3_grow_2_26 (q := 27) rfl ?_
    refine x_steq (st1 := [.int 5, .int 1, .int 10]) (by dsimp only; rfl) ?_
    refine x_callS hC xv_J3_73 dJ3_grow_2_27 (q := 30) rfl rfl (m_J8_newLength_10 h0 g) rfl (Nat.le_of_ble_eq_true rfl) ⟨(Nat.le_of_ble_eq_true rfl), (Nat.le_of_ble_eq_true rfl)⟩ ⟨(Nat.le_of_ble_eq_true rfl), (Nat.le_of_ble_eq_true rfl)⟩ (fun v g1 hp => ?_)
    obtain ⟨rfl, hg1⟩ := hp
    replace hg1 := hg1.symm
    subst hg1
    refine x_istore_n hC dJ3_grow_2_30 (q := 31) rfl rfl ?_
    refine x_aloadr_n hC dJ3_grow_2_31 (q := 32) rfl rfl ?_
    refine x_aloadr_n hC dJ3_grow_2_32 (q := 33) rfl rfl ?_
    refine x_get hC xf_J3_9_21 dJ3_grow_2_33 (q := 36) rfl (n := n) hl rfl ?_
    refine x_iload_n hC dJ3_grow_2_36 (q := 37) rfl rfl ?_
    refine x_callS hC xv_J3_66 dJ3_grow_2_37 (q := 40) rfl rfl (m_J9_copyOf_10 h0 g hM hd2 hdt ha hnt hel) rfl (Nat.le_of_ble_eq_true rfl) ⟨(Nat.le_of_ble_eq_true rfl), (Nat.le_of_ble_eq_true rfl)⟩ ⟨(Nat.le_of_ble_eq_true rfl), (Nat.le_of_ble_eq_true rfl)⟩ (fun v g1 hp => ?_)
    obtain ⟨d1, rfl, hg1⟩ := hp
    replace hg1 := hg1.symm
    subst hg1
    refine x_dup_x1 hC dJ3_grow_2_40 (q := 41) rfl rfl rfl ?_
    refine x_put hC (n := n) xf_J3_9_21 xd_21 hd1 dJ3_grow_2_41 (q := 44) rfl (by rw [xu_ne (fun q => by rw [q, hnt] at hl; cases hl)]; exact hl) rfl rfl rfl ?_
    have ht1 : n ≠ nt := fun q => by rw [q, hnt] at hl; cases hl
    have ht2 : nd ≠ nt := fun q => by rw [q, hnt] at ha; cases ha
    refine x_drop nd ?_
    refine x_ren nt nd hdt hd2 (xu_eq _ _ _) ?_
    refine x_geq (g' := xu (xu g nd (some (d1, xAr (.object "java/lang/Object") 15 (va_cpy f (fun _ => none) 0 0 10)))) n (some (a, xO 21 [.int mc, .ref d1, .int 10]))) (by
      rw [xu_ne ht2.symm, xu_ne ht1.symm, xu_eq]
      funext k
      unfold xu
      by_cases e1 : k = n
      · subst e1; simp [hne, ht1]
      · by_cases e2 : k = nd
        · subst e2; simp [e1]
        · by_cases e3 : k = nt
          · subst e3; simp [e2, e1, hnt]
          · simp [e1, e2, e3]) ?_
    exact x_aret hC hr (Or.inr ⟨_, rfl⟩) (Or.inr ⟨_, rfl⟩) dJ3_grow_2_44 (Nat.le_of_ble_eq_true rfl) (Nat.le_of_ble_eq_true rfl) ⟨_, rfl, rfl⟩
  · exact absurd (by dsimp only; decide) h7

set_option maxHeartbeats 4000000 in
set_option maxRecDepth 100000 in
theorem m_J3_grow_10 {l : Launch} {s0 : State} {D : va_G} (h0 : x0 l s0 D) (g : xG) {n nd nt : xN} {a d mi : Nat} {mc : Int32} {f : Nat → Option Nat} (hM : va_Mi "[Ljava/lang/Object;" mi s0) (hd1 : Nat.blt n.1 1000 = true) (hd2 : Nat.blt nd.1 1000 = true) (hdt : Nat.blt nt.1 1000 = true) (hne : n ≠ nd) (hl : g n = some (a, xO 21 [.int mc, .ref d, .int 10])) (ha : g nd = some (d, xAr (.object "java/lang/Object") 10 f)) (hnt : g nt = none) (hel : ∀ t, t < 10 → ∀ y, f t = some y → ∃ (n2 : xN) (x : xE), Nat.blt n2.1 1000 = true ∧ g n2 = some (y, x) ∧ Cond.castable (xnm x) "java/lang/Object" ∈ lw_tbl) : xMet l s0 D yJ3_grow cJ3_grow 1 (some (.array (.object "java/lang/Object"))) (xr 7 1 15 250) [.ref a] g (fun r g1 => ∃ d1, r = some (.ref d1) ∧ g1 = xu (xu g nd (some (d1, xAr (.object "java/lang/Object") 15 (va_cpy f (fun _ => none) 0 0 10)))) n (some (a, xO 21 [.int mc, .ref d1, .int 10]))) := by
  refine xMet.of h0 (by decide +kernel) rfl ?_
  intro p e s m args below meth c hC hr hnm
  refine x_aloadr_n hC dJ3_grow_0 (q := 1) rfl rfl ?_
  refine x_aloadr_n hC dJ3_grow_1 (q := 2) rfl rfl ?_
  refine x_get hC xf_J3_48_21 dJ3_grow_2 (q := 5) rfl (n := n) hl rfl ?_
  refine x_iconst hC dJ3_grow_5 (q := 6) rfl (v := (1)) (by decide) ?_
  refine x_iadd hC dJ3_grow_6 (q := 7) rfl ?_
  refine x_callV hC xv_J3_69 dJ3_grow_7 (q := 10) rfl rfl (m_J3_grow_2_10 h0 g hM hd1 hd2 hdt hne hl ha hnt hel) (nn := n) hl rfl rfl (Nat.le_of_ble_eq_true rfl) ⟨(Nat.le_of_ble_eq_true rfl), (Nat.le_of_ble_eq_true rfl)⟩ ⟨(Nat.le_of_ble_eq_true rfl), (Nat.le_of_ble_eq_true rfl)⟩ (fun v g1 hp => ?_)
  obtain ⟨d1, rfl, hg1⟩ := hp
  replace hg1 := hg1.symm
  subst hg1
  exact x_aret hC hr (Or.inr ⟨_, rfl⟩) (Or.inr ⟨_, rfl⟩) dJ3_grow_10 (Nat.le_of_ble_eq_true rfl) (Nat.le_of_ble_eq_true rfl) ⟨_, rfl, rfl⟩

set_option maxHeartbeats 4000000 in
set_option maxRecDepth 100000 in
theorem m_J3_add_2_10 {l : Launch} {s0 : State} {D : va_G} (h0 : x0 l s0 D) (g : xG) {n nd nt : xN} {a d mi : Nat} {mc : Int32} {f : Nat → Option Nat} (hM : va_Mi "[Ljava/lang/Object;" mi s0) (hd1 : Nat.blt n.1 1000 = true) (hd2 : Nat.blt nd.1 1000 = true) (hdt : Nat.blt nt.1 1000 = true) (hne : n ≠ nd) (hl : g n = some (a, xO 21 [.int mc, .ref d, .int 10])) (ha : g nd = some (d, xAr (.object "java/lang/Object") 10 f)) (hnt : g nt = none) (hel : ∀ t, t < 10 → ∀ y, f t = some y → ∃ (n2 : xN) (x : xE), Nat.blt n2.1 1000 = true ∧ g n2 = some (y, x) ∧ Cond.castable (xnm x) "java/lang/Object" ∈ lw_tbl) {n2 : xN} {v : Nat} {x : xE} (hd3 : Nat.blt n2.1 1000 = true) (hn2 : n2 ≠ n) (hn3 : n2 ≠ nd) (he : g n2 = some (v, x)) (hx : Cond.castable (xnm x) "java/lang/Object" ∈ lw_tbl) : xMet l s0 D yJ3_add_2 cJ3_add_2 4 none (xr 8 1 15 300) [.ref a, .ref v, .ref d, .int 10] g (fun r g1 => ∃ d1, r = none ∧ g1 = xu (xu g nd (some (d1, xAr (.object "java/lang/Object") 15 (va_up (va_cpy f (fun _ => none) 0 0 10) 10 (some v))))) n (some (a, xO 21 [.int mc, .ref d1, .int 11]))) := by
  refine xMet.of h0 (by decide +kernel) rfl ?_
  intro p e s m args below meth c hC hr hnm
  refine x_iload_n hC dJ3_add_2_0 (q := 1) rfl rfl ?_
  refine x_aloadr_n hC dJ3_add_2_1 (q := 2) rfl rfl ?_
  refine x_alen hC dJ3_add_2_2 (q := 3) rfl (n := nd) ha ?_
  refine x_icmp_ne hC dJ3_add_2_3 (q := 6) rfl (tgt := 11) rfl (fun h3 => ?_) (fun h3 => ?_)
  · exact absurd rfl h3
  refine x_aloadr_n hC dJ3_add_2_6 (q := 7) rfl rfl ?_
  refine x_callV hC xv_J3_129 dJ3_add_2_7 (q := 10) rfl rfl (m_J3_grow_10 h0 g hM hd1 hd2 hdt hne hl ha hnt hel) (nn := n) hl rfl rfl (Nat.le_of_ble_eq_true rfl) ⟨(Nat.le_of_ble_eq_true rfl), (Nat.le_of_ble_eq_true rfl)⟩ ⟨(Nat.le_of_ble_eq_true rfl), (Nat.le_of_ble_eq_true rfl)⟩ (fun v g1 hp => ?_)
  obtain ⟨d1, rfl, hg1⟩ := hp
  replace hg1 := hg1.symm
  subst hg1
  refine x_astorer_n hC dJ3_add_2_10 (q := 11) rfl rfl ?_
  refine x_aloadr_n hC dJ3_add_2_11 (q := 12) rfl rfl ?_
  refine x_iload_n hC dJ3_add_2_12 (q := 13) rfl rfl ?_
  refine x_aloadr_n hC dJ3_add_2_13 (q := 14) rfl rfl ?_
  refine x_aast hC dJ3_add_2_14 (q := 15) rfl (n := nd) (n2 := n2) hd2 (by rw [xu_ne hne.symm, xu_eq]) hd3 (by rw [xu_ne hn2, xu_ne hn3]; exact he) (Or.inl hx) (j := 10) rfl (by decide) (by decide) ?_
  refine x_aloadr_n hC dJ3_add_2_15 (q := 16) rfl rfl ?_
  refine x_iload_n hC dJ3_add_2_16 (q := 17) rfl rfl ?_
  refine x_iconst hC dJ3_add_2_17 (q := 18) rfl (v := (1)) (by decide) ?_
  refine x_iadd hC dJ3_add_2_18 (q := 19) rfl ?_
  refine x_put hC (n := n) xf_J3_48_21 xd_21 hd1 dJ3_add_2_19 (q := 22) rfl (by rw [xu_ne hne, xu_eq]) rfl rfl rfl ?_
  exact x_vret hC hr dJ3_add_2_22 (Nat.le_of_ble_eq_true rfl) (Nat.le_of_ble_eq_true rfl) ⟨d1, rfl, by rw [xu3 hne, xu_xu]; rfl⟩

set_option maxHeartbeats 4000000 in
set_option maxRecDepth 100000 in
theorem m_J3_add_10 {l : Launch} {s0 : State} {D : va_G} (h0 : x0 l s0 D) (g : xG) {n nd nt : xN} {a d mi : Nat} {mc : Int32} {f : Nat → Option Nat} (hM : va_Mi "[Ljava/lang/Object;" mi s0) (hd1 : Nat.blt n.1 1000 = true) (hd2 : Nat.blt nd.1 1000 = true) (hdt : Nat.blt nt.1 1000 = true) (hne : n ≠ nd) (hl : g n = some (a, xO 21 [.int mc, .ref d, .int 10])) (ha : g nd = some (d, xAr (.object "java/lang/Object") 10 f)) (hnt : g nt = none) (hel : ∀ t, t < 10 → ∀ y, f t = some y → ∃ (n2 : xN) (x : xE), Nat.blt n2.1 1000 = true ∧ g n2 = some (y, x) ∧ Cond.castable (xnm x) "java/lang/Object" ∈ lw_tbl) {n2 : xN} {v : Nat} {x : xE} (hd3 : Nat.blt n2.1 1000 = true) (hn2 : n2 ≠ n) (hn3 : n2 ≠ nd) (he : g n2 = some (v, x)) (hx : Cond.castable (xnm x) "java/lang/Object" ∈ lw_tbl) : xMet l s0 D yJ3_add cJ3_add 2 (some .boolean) (xr 9 1 15 330) [.ref a, .ref v] g (fun r g1 => ∃ d1, r = some (.int 1) ∧ g1 = xu (xu g nd (some (d1, xAr (.object "java/lang/Object") 15 (va_up (va_cpy f (fun _ => none) 0 0 10) 10 (some v))))) n (some (a, xO 21 [.int (mc + 1), .ref d1, .int 11]))) := by
  refine xMet.of h0 (by decide +kernel) rfl ?_
  intro p e s m args below meth c hC hr hnm
  refine x_aloadr_n hC dJ3_add_0 (q := 1) rfl rfl ?_
  refine x_dup hC dJ3_add_1 (q := 2) rfl rfl ?_
  refine x_get hC xf_J3_63_21 dJ3_add_2 (q := 5) rfl (n := n) hl rfl ?_
  refine x_iconst hC dJ3_add_5 (q := 6) rfl (v := (1)) (by decide) ?_
  refine x_iadd hC dJ3_add_6 (q := 7) rfl ?_
  refine x_put hC (n := n) xf_J3_63_21 xd_21 hd1 dJ3_add_7 (q := 10) rfl hl rfl rfl rfl ?_
  refine x_aloadr_n hC dJ3_add_10 (q := 11) rfl rfl ?_
  refine x_aloadr_n hC dJ3_add_11 (q := 12) rfl rfl ?_
  refine x_aloadr_n hC dJ3_add_12 (q := 13) rfl rfl ?_
  refine x_get hC xf_J3_9_21 dJ3_add_13 (q := 16) rfl (n := n) (xu_eq _ _ _) rfl ?_
  refine x_aloadr_n hC dJ3_add_16 (q := 17) rfl rfl ?_
  refine x_get hC xf_J3_48_21 dJ3_add_17 (q := 20) rfl (n := n) (xu_eq _ _ _) rfl ?_
  refine x_callV hC xv_J3_131 dJ3_add_20 (q := 23) rfl rfl (m_J3_add_2_10 h0 _ (n := n) (nd := nd) (nt := nt) (n2 := n2) hM hd1 hd2 hdt hne (xu_eq _ _ _) (by rw [xu_ne hne.symm]; exact ha) (by rw [xu_ne (fun q => by rw [← q, hnt] at hl; cases hl)]; exact hnt) (fun t ht y hy => by
    obtain ⟨n5, x5, e1, e2, e3⟩ := hel t ht y hy
    by_cases e : n5 = n
    · subst e; rw [hl] at e2; cases e2; exact ⟨n5, _, e1, xu_eq _ _ _, e3⟩
    · exact ⟨n5, x5, e1, by rw [xu_ne e]; exact e2, e3⟩) hd3 hn2 hn3 (by rw [xu_ne hn2]; exact he) hx) (nn := n) (xu_eq _ _ _) rfl rfl (Nat.le_of_ble_eq_true rfl) ⟨(Nat.le_of_ble_eq_true rfl), (Nat.le_of_ble_eq_true rfl)⟩ ⟨(Nat.le_of_ble_eq_true rfl), (Nat.le_of_ble_eq_true rfl)⟩ (fun v g1 hp => ?_)
  obtain ⟨d1, rfl, hg1⟩ := hp
  replace hg1 := hg1.symm
  subst hg1
  refine x_iconst hC dJ3_add_23 (q := 24) rfl (v := (1)) (by decide) ?_
  exact x_zret hC hr rfl dJ3_add_24 (Nat.le_of_ble_eq_true rfl) (Nat.le_of_ble_eq_true rfl) ⟨d1, rfl, by rw [xu3 hne]⟩

set_option maxHeartbeats 4000000 in
set_option maxRecDepth 100000 in
theorem m_J8_newLength_15 {l : Launch} {s0 : State} {D : va_G} (h0 : x0 l s0 D) (g : xG) : xMet l s0 D yJ8_newLength cJ8_newLength 4 (some .int) (xr 1 0 0 30) [.int 15, .int 1, .int 7] g (fun r g1 => r = some (.int 22) ∧ g1 = g) := by
  refine xMet.of h0 (by decide +kernel) rfl ?_
  intro p e s m args below meth c hC hr hnm
  refine x_iload_n hC dJ8_newLength_0 (q := 1) rfl rfl ?_
  refine x_iload_n hC dJ8_newLength_1 (q := 2) rfl rfl ?_
  refine x_iload_n hC dJ8_newLength_2 (q := 3) rfl rfl ?_
  refine x_callS hC xv_J8_194 dJ8_newLength_3 (q := 6) rfl rfl (m_J0_max h0 g _ _) rfl (Nat.le_of_ble_eq_true rfl) ⟨(Nat.le_of_ble_eq_true rfl), (Nat.le_of_ble_eq_true rfl)⟩ ⟨(Nat.le_of_ble_eq_true rfl), (Nat.le_of_ble_eq_true rfl)⟩ (fun v g1 hp => ?_)
  obtain ⟨rfl, hg1⟩ := hp
  replace hg1 := hg1.symm
  subst hg1
  refine x_iadd hC dJ8_newLength_6 (q := 7) rfl ?_
  refine x_istore_n hC dJ8_newLength_7 (q := 8) rfl rfl ?_
  refine x_iconst hC dJ8_newLength_8 (q := 9) rfl (v := (0)) (by decide) ?_
  refine x_iload_n hC dJ8_newLength_9 (q := 10) rfl rfl ?_
  refine x_icmp_ge hC dJ8_newLength_10 (q := 13) rfl (tgt := 21) rfl (fun h10 => ?_) (fun h10 => ?_)
  · exact absurd h10 (by decide)
  refine x_iload_n hC dJ8_newLength_13 (q := 14) rfl rfl ?_
  refine x_ldc hC dJ8_newLength_14 (q := 16) rfl q699 ?_
  refine x_icmp_gt hC dJ8_newLength_16 (q := 19) rfl (tgt := 21) rfl (fun h16 => ?_) (fun h16 => ?_)
  · exact absurd h16 (by decide)
  refine x_iload_n hC dJ8_newLength_19 (q := 20) rfl rfl ?_
  exact x_iret hC hr dJ8_newLength_20 (Nat.le_of_ble_eq_true rfl) (Nat.le_of_ble_eq_true rfl) ⟨by decide, rfl⟩

set_option maxHeartbeats 4000000 in
set_option maxRecDepth 100000 in
theorem m_J9_copyOf_2_15 {l : Launch} {s0 : State} {D : va_G} (h0 : x0 l s0 D) (g : xG) {nd nt : xN} {d mi : Nat} {f : Nat → Option Nat} (hM : va_Mi "[Ljava/lang/Object;" mi s0) (hd2 : Nat.blt nd.1 1000 = true) (hdt : Nat.blt nt.1 1000 = true) (ha : g nd = some (d, xAr (.object "java/lang/Object") 15 f)) (hnt : g nt = none) (hel : ∀ t, t < 15 → ∀ y, f t = some y → ∃ (n2 : xN) (x : xE), Nat.blt n2.1 1000 = true ∧ g n2 = some (y, x) ∧ Cond.castable (xnm x) "java/lang/Object" ∈ lw_tbl) : xMet l s0 D yJ9_copyOf_2 cJ9_copyOf_2 4 (some (.array (.object "java/lang/Object"))) (xr 1 1 22 60) [.ref d, .int 22, .ref mi] g (fun r g1 => ∃ d1, r = some (.ref d1) ∧ g1 = xu g nt (some (d1, xAr (.object "java/lang/Object") 22 (va_cpy f (fun _ => none) 0 0 15)))) := by
  refine xMet.of h0 (by decide +kernel) rfl ?_
  intro p e s m args below meth c hC hr hnm
  refine x_aloadr_n hC dJ9_copyOf_2_0 (q := 1) rfl rfl ?_
  refine x_ldcM hC q738 hM dJ9_copyOf_2_1 (q := 3) rfl ?_
  refine x_acmp_ne (rx := some mi) (ry := some mi) hC dJ9_copyOf_2_3 (q := 6) rfl (tgt := 13) rfl (fun h3 => ?_) (fun h3 => ?_)
  · exact absurd rfl h3
  refine x_iload_n hC dJ9_copyOf_2_6 (q := 7) rfl rfl ?_
  refine x_anew hC (N := 22) nt q740 q739 dJ9_copyOf_2_7 (q := 10) rfl hdt hnt rfl (by decide) (Nat.le_of_ble_eq_true rfl) (Nat.le_of_ble_eq_true rfl) (fun a_7 => ?_)
  refine x_goto hC dJ9_copyOf_2_10 (tgt := 24) rfl ?_
  refine x_astorer_n hC dJ9_copyOf_2_24 (q := 25) rfl rfl ?_
  have hne : nd ≠ nt := fun q => by rw [q, hnt] at ha; cases ha
  refine x_aloadr_n hC dJ9_copyOf_2_25 (q := 26) rfl rfl ?_
  refine x_iconst hC dJ9_copyOf_2_26 (q := 27) rfl (v := (0)) (by decide) ?_
  refine x_aloadr_n hC dJ9_copyOf_2_27 (q := 28) rfl rfl ?_
  refine x_iconst hC dJ9_copyOf_2_28 (q := 29) rfl (v := (0)) (by decide) ?_
  refine x_aloadr_n hC dJ9_copyOf_2_29 (q := 30) rfl rfl ?_
  refine x_alen hC dJ9_copyOf_2_30 (q := 31) rfl (n := nd) (by rw [xu_ne hne]; exact ha) ?_
  refine x_iload_n hC dJ9_copyOf_2_31 (q := 32) rfl rfl ?_
  refine x_callS hC xv_J9_304 dJ9_copyOf_2_32 (q := 35) rfl rfl (m_J0_min h0 _ _ _) rfl (Nat.le_of_ble_eq_true rfl) ⟨(Nat.le_of_ble_eq_true rfl), (Nat.le_of_ble_eq_true rfl)⟩ ⟨(Nat.le_of_ble_eq_true rfl), (Nat.le_of_ble_eq_true rfl)⟩ (fun v g1 hp => ?_)
  obtain ⟨rfl, hg1⟩ := hp
  replace hg1 := hg1.symm
  subst hg1
  refine x_copyR hC q744 dJ9_copyOf_2_35 (q := 38) rfl (n0 := nd) (n1 := nt) (i := 0) (j := 0) (k := 15) (by rw [xu_ne hne]; exact ha) hdt (xu_eq _ _ _) rfl rfl (if_neg (show ¬ (22 : Int32) < nI 15 by decide)) (by decide) (by decide) (by decide) (by decide) (fun t ht y hy => ?_) (Nat.le_of_ble_eq_true rfl) (Nat.le_of_ble_eq_true rfl) ?_
  · rw [Nat.zero_add] at hy
    obtain ⟨n2, x, e1, e2, e3⟩ := hel t ht y hy
    exact ⟨n2, x, e1, by rw [xu_ne (fun q => by rw [q, hnt] at e2; cases e2)]; exact e2, e3⟩
  refine x_aloadr_n hC dJ9_copyOf_2_38 (q := 39) rfl rfl ?_
  exact x_aret hC hr (Or.inr ⟨_, rfl⟩) (Or.inr ⟨_, rfl⟩) dJ9_copyOf_2_39 (Nat.le_of_ble_eq_true rfl) (Nat.le_of_ble_eq_true rfl) ⟨_, rfl, by rw [xu_xu]⟩

set_option maxHeartbeats 4000000 in
set_option maxRecDepth 100000 in
theorem m_J9_copyOf_15 {l : Launch} {s0 : State} {D : va_G} (h0 : x0 l s0 D) (g : xG) {nd nt : xN} {d mi : Nat} {f : Nat → Option Nat} (hM : va_Mi "[Ljava/lang/Object;" mi s0) (hd2 : Nat.blt nd.1 1000 = true) (hdt : Nat.blt nt.1 1000 = true) (ha : g nd = some (d, xAr (.object "java/lang/Object") 15 f)) (hnt : g nt = none) (hel : ∀ t, t < 15 → ∀ y, f t = some y → ∃ (n2 : xN) (x : xE), Nat.blt n2.1 1000 = true ∧ g n2 = some (y, x) ∧ Cond.castable (xnm x) "java/lang/Object" ∈ lw_tbl) : xMet l s0 D yJ9_copyOf cJ9_copyOf 2 (some (.array (.object "java/lang/Object"))) (xr 2 1 22 90) [.ref d, .int 22] g (fun r g1 => ∃ d1, r = some (.ref d1) ∧ g1 = xu g nt (some (d1, xAr (.object "java/lang/Object") 22 (va_cpy f (fun _ => none) 0 0 15)))) := by
  refine xMet.of h0 (by decide +kernel) rfl ?_
  intro p e s m args below meth c hC hr hnm
  refine x_aloadr_n hC dJ9_copyOf_0 (q := 1) rfl rfl ?_
  refine x_iload_n hC dJ9_copyOf_1 (q := 2) rfl rfl ?_
  refine x_aloadr_n hC dJ9_copyOf_2 (q := 3) rfl rfl ?_
  refine x_getCA hC q706 hM dJ9_copyOf_3 (q := 6) rfl hd2 ha (Nat.le_of_ble_eq_true rfl) (Nat.le_of_ble_eq_true rfl) ?_
  refine x_callS hC xv_J9_300 dJ9_copyOf_6 (q := 9) rfl rfl (m_J9_copyOf_2_15 h0 g hM hd2 hdt ha hnt hel) rfl (Nat.le_of_ble_eq_true rfl) ⟨(Nat.le_of_ble_eq_true rfl), (Nat.le_of_ble_eq_true rfl)⟩ ⟨(Nat.le_of_ble_eq_true rfl), (Nat.le_of_ble_eq_true rfl)⟩ (fun v g1 hp => ?_)
  obtain ⟨d1, rfl, hg1⟩ := hp
  replace hg1 := hg1.symm
  subst hg1
  exact x_aret hC hr (Or.inr ⟨_, rfl⟩) (Or.inr ⟨_, rfl⟩) dJ9_copyOf_9 (Nat.le_of_ble_eq_true rfl) (Nat.le_of_ble_eq_true rfl) ⟨_, rfl, rfl⟩

set_option maxHeartbeats 4000000 in
set_option maxRecDepth 100000 in
theorem m_J3_grow_2_15 {l : Launch} {s0 : State} {D : va_G} (h0 : x0 l s0 D) (g : xG) {n nd nt : xN} {a d mi : Nat} {mc : Int32} {f : Nat → Option Nat} (hM : va_Mi "[Ljava/lang/Object;" mi s0) (hd1 : Nat.blt n.1 1000 = true) (hd2 : Nat.blt nd.1 1000 = true) (hdt : Nat.blt nt.1 1000 = true) (hne : n ≠ nd) (hl : g n = some (a, xO 21 [.int mc, .ref d, .int 15])) (ha : g nd = some (d, xAr (.object "java/lang/Object") 15 f)) (hnt : g nt = none) (hel : ∀ t, t < 15 → ∀ y, f t = some y → ∃ (n2 : xN) (x : xE), Nat.blt n2.1 1000 = true ∧ g n2 = some (y, x) ∧ Cond.castable (xnm x) "java/lang/Object" ∈ lw_tbl) : xMet l s0 D yJ3_grow_2 cJ3_grow_2 4 (some (.array (.object "java/lang/Object"))) (xr 6 1 22 220) [.ref a, .int 16] g (fun r g1 => ∃ d1, r = some (.ref d1) ∧ g1 = xu (xu g nd (some (d1, xAr (.object "java/lang/Object") 22 (va_cpy f (fun _ => none) 0 0 15)))) n (some (a, xO 21 [.int mc, .ref d1, .int 15]))) := by
  refine xMet.of h0 (by decide +kernel) rfl ?_
  intro p e s m args below meth c hC hr hnm
  refine x_aloadr_n hC dJ3_grow_2_0 (q := 1) rfl rfl ?_
  refine x_get hC xf_J3_9_21 dJ3_grow_2_1 (q := 4) rfl (n := n) hl rfl ?_
  refine x_alen hC dJ3_grow_2_4 (q := 5) rfl (n := nd) ha ?_
  refine x_istore_n hC dJ3_grow_2_5 (q := 6) rfl rfl ?_
  refine x_iload_n hC dJ3_grow_2_6 (q := 7) rfl rfl ?_
  refine x_if_gt hC dJ3_grow_2_7 (q := 10) rfl (tgt := 20) rfl (fun h7 => ?_) (fun h7 => ?_)
  · refine x_iload_n hC dJ3_grow_2_20 (q := 21) rfl rfl ?_
    refine x_iload_n hC dJ3_grow_2_21 (q := 22) rfl rfl ?_
    refine x_iload_n hC dJ3_grow_2_22 (q := 23) rfl rfl ?_
    refine x_isub hC dJ3_grow_2_23 (q := 24) rfl ?_
    refine x_iload_n hC dJ3_grow_2_24 (q := 25) rfl rfl ?_
    refine x_iconst hC dJ3_grow_2_25 (q := 26) rfl (v := (1)) (by decide) ?_
    refine x_ishr hC dJ3_grow_2_26 (q := 27) rfl ?_
    refine x_steq (st1 := [.int 7, .int 1, .int 15]) (by dsimp only; rfl) ?_
    refine x_callS hC xv_J3_73 dJ3_grow_2_27 (q := 30) rfl rfl (m_J8_newLength_15 h0 g) rfl (Nat.le_of_ble_eq_true rfl) ⟨(Nat.le_of_ble_eq_true rfl), (Nat.le_of_ble_eq_true rfl)⟩ ⟨(Nat.le_of_ble_eq_true rfl), (Nat.le_of_ble_eq_true rfl)⟩ (fun v g1 hp => ?_)
    obtain ⟨rfl, hg1⟩ := hp
    replace hg1 := hg1.symm
    subst hg1
    refine x_istore_n hC dJ3_grow_2_30 (q := 31) rfl rfl ?_
    refine x_aloadr_n hC dJ3_grow_2_31 (q := 32) rfl rfl ?_
    refine x_aloadr_n hC dJ3_grow_2_32 (q := 33) rfl rfl ?_
    refine x_get hC xf_J3_9_21 dJ3_grow_2_33 (q := 36) rfl (n := n) hl rfl ?_
    refine x_iload_n hC dJ3_grow_2_36 (q := 37) rfl rfl ?_
    refine x_callS hC xv_J3_66 dJ3_grow_2_37 (q := 40) rfl rfl (m_J9_copyOf_15 h0 g hM hd2 hdt ha hnt hel) rfl (Nat.le_of_ble_eq_true rfl) ⟨(Nat.le_of_ble_eq_true rfl), (Nat.le_of_ble_eq_true rfl)⟩ ⟨(Nat.le_of_ble_eq_true rfl), (Nat.le_of_ble_eq_true rfl)⟩ (fun v g1 hp => ?_)
    obtain ⟨d1, rfl, hg1⟩ := hp
    replace hg1 := hg1.symm
    subst hg1
    refine x_dup_x1 hC dJ3_grow_2_40 (q := 41) rfl rfl rfl ?_
    refine x_put hC (n := n) xf_J3_9_21 xd_21 hd1 dJ3_grow_2_41 (q := 44) rfl (by rw [xu_ne (fun q => by rw [q, hnt] at hl; cases hl)]; exact hl) rfl rfl rfl ?_
    have ht1 : n ≠ nt := fun q => by rw [q, hnt] at hl; cases hl
    have ht2 : nd ≠ nt := fun q => by rw [q, hnt] at ha; cases ha
    refine x_drop nd ?_
    refine x_ren nt nd hdt hd2 (xu_eq _ _ _) ?_
    refine x_geq (g' := xu (xu g nd (some (d1, xAr (.object "java/lang/Object") 22 (va_cpy f (fun _ => none) 0 0 15)))) n (some (a, xO 21 [.int mc, .ref d1, .int 15]))) (by
      rw [xu_ne ht2.symm, xu_ne ht1.symm, xu_eq]
      funext k
      unfold xu
      by_cases e1 : k = n
      · subst e1; simp [hne, ht1]
      · by_cases e2 : k = nd
        · subst e2; simp [e1]
        · by_cases e3 : k = nt
          · subst e3; simp [e2, e1, hnt]
          · simp [e1, e2, e3]) ?_
    exact x_aret hC hr (Or.inr ⟨_, rfl⟩) (Or.inr ⟨_, rfl⟩) dJ3_grow_2_44 (Nat.le_of_ble_eq_true rfl) (Nat.le_of_ble_eq_true rfl) ⟨_, rfl, rfl⟩
  · exact absurd (by dsimp only; decide) h7

set_option maxHeartbeats 4000000 in
set_option maxRecDepth 100000 in
theorem m_J3_grow_15 {l : Launch} {s0 : State} {D : va_G} (h0 : x0 l s0 D) (g : xG) {n nd nt : xN} {a d mi : Nat} {mc : Int32} {f : Nat → Option Nat} (hM : va_Mi "[Ljava/lang/Object;" mi s0) (hd1 : Nat.blt n.1 1000 = true) (hd2 : Nat.blt nd.1 1000 = true) (hdt : Nat.blt nt.1 1000 = true) (hne : n ≠ nd) (hl : g n = some (a, xO 21 [.int mc, .ref d, .int 15])) (ha : g nd = some (d, xAr (.object "java/lang/Object") 15 f)) (hnt : g nt = none) (hel : ∀ t, t < 15 → ∀ y, f t = some y → ∃ (n2 : xN) (x : xE), Nat.blt n2.1 1000 = true ∧ g n2 = some (y, x) ∧ Cond.castable (xnm x) "java/lang/Object" ∈ lw_tbl) : xMet l s0 D yJ3_grow cJ3_grow 1 (some (.array (.object "java/lang/Object"))) (xr 7 1 22 250) [.ref a] g (fun r g1 => ∃ d1, r = some (.ref d1) ∧ g1 = xu (xu g nd (some (d1, xAr (.object "java/lang/Object") 22 (va_cpy f (fun _ => none) 0 0 15)))) n (some (a, xO 21 [.int mc, .ref d1, .int 15]))) := by
  refine xMet.of h0 (by decide +kernel) rfl ?_
  intro p e s m args below meth c hC hr hnm
  refine x_aloadr_n hC dJ3_grow_0 (q := 1) rfl rfl ?_
  refine x_aloadr_n hC dJ3_grow_1 (q := 2) rfl rfl ?_
  refine x_get hC xf_J3_48_21 dJ3_grow_2 (q := 5) rfl (n := n) hl rfl ?_
  refine x_iconst hC dJ3_grow_5 (q := 6) rfl (v := (1)) (by decide) ?_
  refine x_iadd hC dJ3_grow_6 (q := 7) rfl ?_
  refine x_callV hC xv_J3_69 dJ3_grow_7 (q := 10) rfl rfl (m_J3_grow_2_15 h0 g hM hd1 hd2 hdt hne hl ha hnt hel) (nn := n) hl rfl rfl (Nat.le_of_ble_eq_true rfl) ⟨(Nat.le_of_ble_eq_true rfl), (Nat.le_of_ble_eq_true rfl)⟩ ⟨(Nat.le_of_ble_eq_true rfl), (Nat.le_of_ble_eq_true rfl)⟩ (fun v g1 hp => ?_)
  obtain ⟨d1, rfl, hg1⟩ := hp
  replace hg1 := hg1.symm
  subst hg1
  exact x_aret hC hr (Or.inr ⟨_, rfl⟩) (Or.inr ⟨_, rfl⟩) dJ3_grow_10 (Nat.le_of_ble_eq_true rfl) (Nat.le_of_ble_eq_true rfl) ⟨_, rfl, rfl⟩

set_option maxHeartbeats 4000000 in
set_option maxRecDepth 100000 in
theorem m_J3_add_2_15 {l : Launch} {s0 : State} {D : va_G} (h0 : x0 l s0 D) (g : xG) {n nd nt : xN} {a d mi : Nat} {mc : Int32} {f : Nat → Option Nat} (hM : va_Mi "[Ljava/lang/Object;" mi s0) (hd1 : Nat.blt n.1 1000 = true) (hd2 : Nat.blt nd.1 1000 = true) (hdt : Nat.blt nt.1 1000 = true) (hne : n ≠ nd) (hl : g n = some (a, xO 21 [.int mc, .ref d, .int 15])) (ha : g nd = some (d, xAr (.object "java/lang/Object") 15 f)) (hnt : g nt = none) (hel : ∀ t, t < 15 → ∀ y, f t = some y → ∃ (n2 : xN) (x : xE), Nat.blt n2.1 1000 = true ∧ g n2 = some (y, x) ∧ Cond.castable (xnm x) "java/lang/Object" ∈ lw_tbl) {n2 : xN} {v : Nat} {x : xE} (hd3 : Nat.blt n2.1 1000 = true) (hn2 : n2 ≠ n) (hn3 : n2 ≠ nd) (he : g n2 = some (v, x)) (hx : Cond.castable (xnm x) "java/lang/Object" ∈ lw_tbl) : xMet l s0 D yJ3_add_2 cJ3_add_2 4 none (xr 8 1 22 300) [.ref a, .ref v, .ref d, .int 15] g (fun r g1 => ∃ d1, r = none ∧ g1 = xu (xu g nd (some (d1, xAr (.object "java/lang/Object") 22 (va_up (va_cpy f (fun _ => none) 0 0 15) 15 (some v))))) n (some (a, xO 21 [.int mc, .ref d1, .int 16]))) := by
  refine xMet.of h0 (by decide +kernel) rfl ?_
  intro p e s m args below meth c hC hr hnm
  refine x_iload_n hC dJ3_add_2_0 (q := 1) rfl rfl ?_
  refine x_aloadr_n hC dJ3_add_2_1 (q := 2) rfl rfl ?_
  refine x_alen hC dJ3_add_2_2 (q := 3) rfl (n := nd) ha ?_
  refine x_icmp_ne hC dJ3_add_2_3 (q := 6) rfl (tgt := 11) rfl (fun h3 => ?_) (fun h3 => ?_)
  · exact absurd rfl h3
  refine x_aloadr_n hC dJ3_add_2_6 (q := 7) rfl rfl ?_
  refine x_callV hC xv_J3_129 dJ3_add_2_7 (q := 10) rfl rfl (m_J3_grow_15 h0 g hM hd1 hd2 hdt hne hl ha hnt hel) (nn := n) hl rfl rfl (Nat.le_of_ble_eq_true rfl) ⟨(Nat.le_of_ble_eq_true rfl), (Nat.le_of_ble_eq_true rfl)⟩ ⟨(Nat.le_of_ble_eq_true rfl), (Nat.le_of_ble_eq_true rfl)⟩ (fun v g1 hp => ?_)
  obtain ⟨d1, rfl, hg1⟩ := hp
  replace hg1 := hg1.symm
  subst hg1
  refine x_astorer_n hC dJ3_add_2_10 (q := 11) rfl rfl ?_
  refine x_aloadr_n hC dJ3_add_2_11 (q := 12) rfl rfl ?_
  refine x_iload_n hC dJ3_add_2_12 (q := 13) rfl rfl ?_
  refine x_aloadr_n hC dJ3_add_2_13 (q := 14) rfl rfl ?_
  refine x_aast hC dJ3_add_2_14 (q := 15) rfl (n := nd) (n2 := n2) hd2 (by rw [xu_ne hne.symm, xu_eq]) hd3 (by rw [xu_ne hn2, xu_ne hn3]; exact he) (Or.inl hx) (j := 15) rfl (by decide) (by decide) ?_
  refine x_aloadr_n hC dJ3_add_2_15 (q := 16) rfl rfl ?_
  refine x_iload_n hC dJ3_add_2_16 (q := 17) rfl rfl ?_
  refine x_iconst hC dJ3_add_2_17 (q := 18) rfl (v := (1)) (by decide) ?_
  refine x_iadd hC dJ3_add_2_18 (q := 19) rfl ?_
  refine x_put hC (n := n) xf_J3_48_21 xd_21 hd1 dJ3_add_2_19 (q := 22) rfl (by rw [xu_ne hne, xu_eq]) rfl rfl rfl ?_
  exact x_vret hC hr dJ3_add_2_22 (Nat.le_of_ble_eq_true rfl) (Nat.le_of_ble_eq_true rfl) ⟨d1, rfl, by rw [xu3 hne, xu_xu]; rfl⟩

set_option maxHeartbeats 4000000 in
set_option maxRecDepth 100000 in
theorem m_J3_add_15 {l : Launch} {s0 : State} {D : va_G} (h0 : x0 l s0 D) (g : xG) {n nd nt : xN} {a d mi : Nat} {mc : Int32} {f : Nat → Option Nat} (hM : va_Mi "[Ljava/lang/Object;" mi s0) (hd1 : Nat.blt n.1 1000 = true) (hd2 : Nat.blt nd.1 1000 = true) (hdt : Nat.blt nt.1 1000 = true) (hne : n ≠ nd) (hl : g n = some (a, xO 21 [.int mc, .ref d, .int 15])) (ha : g nd = some (d, xAr (.object "java/lang/Object") 15 f)) (hnt : g nt = none) (hel : ∀ t, t < 15 → ∀ y, f t = some y → ∃ (n2 : xN) (x : xE), Nat.blt n2.1 1000 = true ∧ g n2 = some (y, x) ∧ Cond.castable (xnm x) "java/lang/Object" ∈ lw_tbl) {n2 : xN} {v : Nat} {x : xE} (hd3 : Nat.blt n2.1 1000 = true) (hn2 : n2 ≠ n) (hn3 : n2 ≠ nd) (he : g n2 = some (v, x)) (hx : Cond.castable (xnm x) "java/lang/Object" ∈ lw_tbl) : xMet l s0 D yJ3_add cJ3_add 2 (some .boolean) (xr 9 1 22 330) [.ref a, .ref v] g (fun r g1 => ∃ d1, r = some (.int 1) ∧ g1 = xu (xu g nd (some (d1, xAr (.object "java/lang/Object") 22 (va_up (va_cpy f (fun _ => none) 0 0 15) 15 (some v))))) n (some (a, xO 21 [.int (mc + 1), .ref d1, .int 16]))) := by
  refine xMet.of h0 (by decide +kernel) rfl ?_
  intro p e s m args below meth c hC hr hnm
  refine x_aloadr_n hC dJ3_add_0 (q := 1) rfl rfl ?_
  refine x_dup hC dJ3_add_1 (q := 2) rfl rfl ?_
  refine x_get hC xf_J3_63_21 dJ3_add_2 (q := 5) rfl (n := n) hl rfl ?_
  refine x_iconst hC dJ3_add_5 (q := 6) rfl (v := (1)) (by decide) ?_
  refine x_iadd hC dJ3_add_6 (q := 7) rfl ?_
  refine x_put hC (n := n) xf_J3_63_21 xd_21 hd1 dJ3_add_7 (q := 10) rfl hl rfl rfl rfl ?_
  refine x_aloadr_n hC dJ3_add_10 (q := 11) rfl rfl ?_
  refine x_aloadr_n hC dJ3_add_11 (q := 12) rfl rfl ?_
  refine x_aloadr_n hC dJ3_add_12 (q := 13) rfl rfl ?_
  refine x_get hC xf_J3_9_21 dJ3_add_13 (q := 16) rfl (n := n) (xu_eq _ _ _) rfl ?_
  refine x_aloadr_n hC dJ3_add_16 (q := 17) rfl rfl ?_
  refine x_get hC xf_J3_48_21 dJ3_add_17 (q := 20) rfl (n := n) (xu_eq _ _ _) rfl ?_
  refine x_callV hC xv_J3_131 dJ3_add_20 (q := 23) rfl rfl (m_J3_add_2_15 h0 _ (n := n) (nd := nd) (nt := nt) (n2 := n2) hM hd1 hd2 hdt hne (xu_eq _ _ _) (by rw [xu_ne hne.symm]; exact ha) (by rw [xu_ne (fun q => by rw [← q, hnt] at hl; cases hl)]; exact hnt) (fun t ht y hy => by
    obtain ⟨n5, x5, e1, e2, e3⟩ := hel t ht y hy
    by_cases e : n5 = n
    · subst e; rw [hl] at e2; cases e2; exact ⟨n5, _, e1, xu_eq _ _ _, e3⟩
    · exact ⟨n5, x5, e1, by rw [xu_ne e]; exact e2, e3⟩) hd3 hn2 hn3 (by rw [xu_ne hn2]; exact he) hx) (nn := n) (xu_eq _ _ _) rfl rfl (Nat.le_of_ble_eq_true rfl) ⟨(Nat.le_of_ble_eq_true rfl), (Nat.le_of_ble_eq_true rfl)⟩ ⟨(Nat.le_of_ble_eq_true rfl), (Nat.le_of_ble_eq_true rfl)⟩ (fun v g1 hp => ?_)
  obtain ⟨d1, rfl, hg1⟩ := hp
  replace hg1 := hg1.symm
  subst hg1
  refine x_iconst hC dJ3_add_23 (q := 24) rfl (v := (1)) (by decide) ?_
  exact x_zret hC hr rfl dJ3_add_24 (Nat.le_of_ble_eq_true rfl) (Nat.le_of_ble_eq_true rfl) ⟨d1, rfl, by rw [xu3 hne]⟩

theorem nI_m1 {n : Nat} (h : 0 < n) : nI n - 1 = nI (n - 1) := by
  have := nI_add (n - 1) 1
  rw [show n - 1 + 1 = n by omega] at this
  rw [← this, show nI 1 = 1 from rfl, Int32.add_sub_cancel]

set_option maxHeartbeats 4000000 in
set_option maxRecDepth 100000 in
theorem m_J3_fastRemove_L {l : Launch} {s0 : State} {D : va_G} (h0 : x0 l s0 D) (g : xG) {n nd : xN} {a d N sz : Nat} {mc : Int32} {f : Nat → Option Nat} (hd1 : Nat.blt n.1 1000 = true) (hd2 : Nat.blt nd.1 1000 = true) (hne : n ≠ nd) (hl : g n = some (a, xO 21 [.int mc, .ref d, .int (nI sz)])) (ha : g nd = some (d, xAr (.object "java/lang/Object") N f)) (hs : 0 < sz) (hsN : sz ≤ N) (hN : N < 2147483648) : xMet l s0 D yJ3_fastRemove cJ3_fastRemove 4 none (xr 1 0 0 60) [.ref a, .ref d, .int (nI (sz - 1))] g (fun r g1 => r = none ∧ g1 = xu (xu g nd (some (d, xAr (.object "java/lang/Object") N (va_up f (sz - 1) none)))) n (some (a, xO 21 [.int (mc + 1), .ref d, .int (nI (sz - 1))]))) := by
  refine xMet.of h0 (by decide +kernel) rfl ?_
  intro p e s m args below meth c hC hr hnm
  refine x_aloadr_n hC dJ3_fastRemove_0 (q := 1) rfl rfl ?_
  refine x_dup hC dJ3_fastRemove_1 (q := 2) rfl rfl ?_
  refine x_get hC xf_J3_63_21 dJ3_fastRemove_2 (q := 5) rfl (n := n) hl rfl ?_
  refine x_iconst hC dJ3_fastRemove_5 (q := 6) rfl (v := (1)) (by decide) ?_
  refine x_iadd hC dJ3_fastRemove_6 (q := 7) rfl ?_
  refine x_put hC (n := n) xf_J3_63_21 xd_21 hd1 dJ3_fastRemove_7 (q := 10) rfl hl rfl rfl rfl ?_
  refine x_aloadr_n hC dJ3_fastRemove_10 (q := 11) rfl rfl ?_
  refine x_get hC xf_J3_48_21 dJ3_fastRemove_11 (q := 14) rfl (n := n) (xu_eq _ _ _) rfl ?_
  refine x_iconst hC dJ3_fastRemove_14 (q := 15) rfl (v := (1)) (by decide) ?_
  refine x_isub hC dJ3_fastRemove_15 (q := 16) rfl ?_
  refine x_dup hC dJ3_fastRemove_16 (q := 17) rfl rfl ?_
  refine x_istore_n hC dJ3_fastRemove_17 (q := 18) rfl rfl ?_
  refine x_iload_n hC dJ3_fastRemove_18 (q := 19) rfl rfl ?_
  refine x_icmp_le hC dJ3_fastRemove_19 (q := 22) rfl (tgt := 34) rfl (fun h19 => ?_) (fun h19 => ?_)
  · refine x_aloadr_n hC dJ3_fastRemove_34 (q := 35) rfl rfl ?_
    refine x_aloadr_n hC dJ3_fastRemove_35 (q := 36) rfl rfl ?_
    refine x_iload_n hC dJ3_fastRemove_36 (q := 37) rfl rfl ?_
    refine x_dup_x1 hC dJ3_fastRemove_37 (q := 38) rfl rfl rfl ?_
    refine x_put hC (n := n) xf_J3_48_21 xd_21 hd1 dJ3_fastRemove_38 (q := 41) rfl (xu_eq _ _ _) rfl rfl rfl ?_
    refine x_null hC dJ3_fastRemove_41 (q := 42) rfl ?_
    refine x_aastn hC dJ3_fastRemove_42 (q := 43) rfl (n := nd) hd2 (by rw [xu_ne hne.symm, xu_ne hne.symm]; exact ha) (j := sz - 1) (nI_m1 hs) (by omega) hN ?_
    exact x_vret hC hr dJ3_fastRemove_43 (Nat.le_of_ble_eq_true rfl) (Nat.le_of_ble_eq_true rfl) ⟨rfl, by rw [nI_m1 hs, xu_xu, xu_cm hne]; rfl⟩
  · exact absurd (by rw [nI_m1 hs]; exact Int32.le_refl _) h19

set_option maxHeartbeats 4000000 in
set_option maxRecDepth 100000 in
theorem m_J3_remove_L {l : Launch} {s0 : State} {D : va_G} (h0 : x0 l s0 D) (g : xG) {n nd : xN} {a d N sz : Nat} {mc : Int32} {f : Nat → Option Nat} (hd1 : Nat.blt n.1 1000 = true) (hd2 : Nat.blt nd.1 1000 = true) (hne : n ≠ nd) (hl : g n = some (a, xO 21 [.int mc, .ref d, .int (nI sz)])) (ha : g nd = some (d, xAr (.object "java/lang/Object") N f)) (hs : 0 < sz) (hsN : sz ≤ N) (hN : N < 2147483648) : xMet l s0 D yJ3_remove cJ3_remove 4 (some (.object "java/lang/Object")) (xr 2 0 0 100) [.ref a, .int (nI (sz - 1))] g (fun r g1 => r = some (va_rf (f (sz - 1))) ∧ g1 = xu (xu g nd (some (d, xAr (.object "java/lang/Object") N (va_up f (sz - 1) none)))) n (some (a, xO 21 [.int (mc + 1), .ref d, .int (nI (sz - 1))]))) := by
  refine xMet.of h0 (by decide +kernel) rfl ?_
  intro p e s m args below meth c hC hr hnm
  refine x_iload_n hC dJ3_remove_0 (q := 1) rfl rfl ?_
  refine x_aloadr_n hC dJ3_remove_1 (q := 2) rfl rfl ?_
  refine x_get hC xf_J3_48_21 dJ3_remove_2 (q := 5) rfl (n := n) hl rfl ?_
  refine x_callS hC xv_J3_118 dJ3_remove_5 (q := 8) rfl rfl (m_J15_checkIndex h0 g _ _ (nI_pos (by omega)) ((nI_ltI (by omega) (by omega)).mpr (by omega))) rfl (Nat.le_of_ble_eq_true rfl) ⟨(Nat.le_of_ble_eq_true rfl), (Nat.le_of_ble_eq_true rfl)⟩ ⟨(Nat.le_of_ble_eq_true rfl), (Nat.le_of_ble_eq_true rfl)⟩ (fun v g1 hp => ?_)
  obtain ⟨rfl, hg1⟩ := hp
  replace hg1 := hg1.symm
  subst hg1
  refine x_pop hC dJ3_remove_8 (q := 9) rfl rfl ?_
  refine x_aloadr_n hC dJ3_remove_9 (q := 10) rfl rfl ?_
  refine x_get hC xf_J3_9_21 dJ3_remove_10 (q := 13) rfl (n := n) hl rfl ?_
  refine x_astorer_n hC dJ3_remove_13 (q := 14) rfl rfl ?_
  refine x_aloadr_n hC dJ3_remove_14 (q := 15) rfl rfl ?_
  refine x_iload_n hC dJ3_remove_15 (q := 16) rfl rfl ?_
  refine x_aald hC dJ3_remove_16 (q := 17) rfl (n := nd) ha (j := sz - 1) rfl (by omega) hN rfl ?_
  refine x_astore_n hC dJ3_remove_17 (q := 18) rfl rfl (va_rf_or _) ?_
  refine x_aloadr_n hC dJ3_remove_18 (q := 19) rfl rfl ?_
  refine x_aloadr_n hC dJ3_remove_19 (q := 20) rfl rfl ?_
  refine x_iload_n hC dJ3_remove_20 (q := 21) rfl rfl ?_
  refine x_callV hC xv_J3_144 dJ3_remove_21 (q := 24) rfl rfl (m_J3_fastRemove_L h0 g hd1 hd2 hne hl ha hs hsN hN) (nn := n) hl rfl rfl (Nat.le_of_ble_eq_true rfl) ⟨(Nat.le_of_ble_eq_true rfl), (Nat.le_of_ble_eq_true rfl)⟩ ⟨(Nat.le_of_ble_eq_true rfl), (Nat.le_of_ble_eq_true rfl)⟩ (fun v g1 hp => ?_)
  obtain ⟨rfl, hg1⟩ := hp
  replace hg1 := hg1.symm
  subst hg1
  refine x_aload_n hC dJ3_remove_24 (q := 25) rfl rfl (va_rf_or _) ?_
  exact x_aret hC hr (Or.inl ⟨_, rfl⟩) (va_rf_or _) dJ3_remove_25 (Nat.le_of_ble_eq_true rfl) (Nat.le_of_ble_eq_true rfl) ⟨rfl, rfl⟩

set_option maxHeartbeats 4000000 in
set_option maxRecDepth 100000 in
theorem m_J3_fastRemove_F {l : Launch} {s0 : State} {D : va_G} (h0 : x0 l s0 D) (g : xG) {n nd : xN} {a d N sz : Nat} {mc : Int32} {f : Nat → Option Nat} (hd1 : Nat.blt n.1 1000 = true) (hd2 : Nat.blt nd.1 1000 = true) (hne : n ≠ nd) (hl : g n = some (a, xO 21 [.int mc, .ref d, .int (nI sz)])) (ha : g nd = some (d, xAr (.object "java/lang/Object") N f)) (hs : 1 < sz) (hsN : sz ≤ N) (hN : N < 2147483648) (hel : ∀ t, t < sz → ∀ y, f t = some y → ∃ (n2 : xN) (x : xE), Nat.blt n2.1 1000 = true ∧ n2 ≠ n ∧ g n2 = some (y, x) ∧ Cond.castable (xnm x) "java/lang/Object" ∈ lw_tbl) : xMet l s0 D yJ3_fastRemove cJ3_fastRemove 4 none (xr 1 0 0 60) [.ref a, .ref d, .int 0] g (fun r g1 => r = none ∧ g1 = xu (xu g nd (some (d, xAr (.object "java/lang/Object") N (va_up (va_cpy f f 1 0 (sz - 1)) (sz - 1) none)))) n (some (a, xO 21 [.int (mc + 1), .ref d, .int (nI (sz - 1))]))) := by
  refine xMet.of h0 (by decide +kernel) rfl ?_
  intro p e s m args below meth c hC hr hnm
  refine x_aloadr_n hC dJ3_fastRemove_0 (q := 1) rfl rfl ?_
  refine x_dup hC dJ3_fastRemove_1 (q := 2) rfl rfl ?_
  refine x_get hC xf_J3_63_21 dJ3_fastRemove_2 (q := 5) rfl (n := n) hl rfl ?_
  refine x_iconst hC dJ3_fastRemove_5 (q := 6) rfl (v := (1)) (by decide) ?_
  refine x_iadd hC dJ3_fastRemove_6 (q := 7) rfl ?_
  refine x_put hC (n := n) xf_J3_63_21 xd_21 hd1 dJ3_fastRemove_7 (q := 10) rfl hl rfl rfl rfl ?_
  refine x_aloadr_n hC dJ3_fastRemove_10 (q := 11) rfl rfl ?_
  refine x_get hC xf_J3_48_21 dJ3_fastRemove_11 (q := 14) rfl (n := n) (xu_eq _ _ _) rfl ?_
  refine x_iconst hC dJ3_fastRemove_14 (q := 15) rfl (v := (1)) (by decide) ?_
  refine x_isub hC dJ3_fastRemove_15 (q := 16) rfl ?_
  refine x_dup hC dJ3_fastRemove_16 (q := 17) rfl rfl ?_
  refine x_istore_n hC dJ3_fastRemove_17 (q := 18) rfl rfl ?_
  refine x_iload_n hC dJ3_fastRemove_18 (q := 19) rfl rfl ?_
  refine x_icmp_le hC dJ3_fastRemove_19 (q := 22) rfl (tgt := 34) rfl (fun h19 => ?_) (fun h19 => ?_)
  · exact absurd h19 (by rw [nI_m1 (by omega), show (0 : Int32) = nI 0 from rfl, nI_leI (by omega) (by omega)]; omega)
  refine x_aloadr_n hC dJ3_fastRemove_22 (q := 23) rfl rfl ?_
  refine x_iload_n hC dJ3_fastRemove_23 (q := 24) rfl rfl ?_
  refine x_iconst hC dJ3_fastRemove_24 (q := 25) rfl (v := (1)) (by decide) ?_
  refine x_iadd hC dJ3_fastRemove_25 (q := 26) rfl ?_
  refine x_aloadr_n hC dJ3_fastRemove_26 (q := 27) rfl rfl ?_
  refine x_iload_n hC dJ3_fastRemove_27 (q := 28) rfl rfl ?_
  refine x_iload_n hC dJ3_fastRemove_28 (q := 29) rfl rfl ?_
  refine x_iload_n hC dJ3_fastRemove_29 (q := 30) rfl rfl ?_
  refine x_isub hC dJ3_fastRemove_30 (q := 31) rfl ?_
  refine x_copyR hC q1731 dJ3_fastRemove_31 (q := 34) rfl (n0 := nd) (n1 := nd) (i := 1) (j := 0) (k := sz - 1) (by rw [xu_ne hne.symm]; exact ha) hd2 (by rw [xu_ne hne.symm]; exact ha) rfl rfl (by rw [nI_m1 (by omega)]; exact Int32.sub_zero _) (by omega) (by omega) hN hN (fun t ht y hy => ?_) (Nat.le_of_ble_eq_true rfl) (Nat.le_of_ble_eq_true rfl) ?_
  · obtain ⟨n5, x5, e1, e2, e3, e4⟩ := hel (1 + t) (by omega) y hy
    exact ⟨n5, x5, e1, by rw [xu_ne e2]; exact e3, e4⟩
  refine x_aloadr_n hC dJ3_fastRemove_34 (q := 35) rfl rfl ?_
  refine x_aloadr_n hC dJ3_fastRemove_35 (q := 36) rfl rfl ?_
  refine x_iload_n hC dJ3_fastRemove_36 (q := 37) rfl rfl ?_
  refine x_dup_x1 hC dJ3_fastRemove_37 (q := 38) rfl rfl rfl ?_
  refine x_put hC (n := n) xf_J3_48_21 xd_21 hd1 dJ3_fastRemove_38 (q := 41) rfl (by rw [xu_ne hne, xu_eq]) rfl rfl rfl ?_
  refine x_null hC dJ3_fastRemove_41 (q := 42) rfl ?_
  refine x_aastn hC dJ3_fastRemove_42 (q := 43) rfl (n := nd) hd2 (by rw [xu_ne hne.symm, xu_eq]) (j := sz - 1) (nI_m1 (by omega)) (by omega) hN ?_
  exact x_vret hC hr dJ3_fastRemove_43 (Nat.le_of_ble_eq_true rfl) (Nat.le_of_ble_eq_true rfl) ⟨rfl, by rw [nI_m1 (by omega)]; funext k; unfold xu; by_cases e1 : k = n <;> by_cases e2 : k = nd <;> simp [e1, e2, hne, hne.symm]⟩

set_option maxHeartbeats 4000000 in
set_option maxRecDepth 100000 in
theorem m_J3_remove_F {l : Launch} {s0 : State} {D : va_G} (h0 : x0 l s0 D) (g : xG) {n nd : xN} {a d N sz : Nat} {mc : Int32} {f : Nat → Option Nat} (hd1 : Nat.blt n.1 1000 = true) (hd2 : Nat.blt nd.1 1000 = true) (hne : n ≠ nd) (hl : g n = some (a, xO 21 [.int mc, .ref d, .int (nI sz)])) (ha : g nd = some (d, xAr (.object "java/lang/Object") N f)) (hs : 1 < sz) (hsN : sz ≤ N) (hN : N < 2147483648) (hel : ∀ t, t < sz → ∀ y, f t = some y → ∃ (n2 : xN) (x : xE), Nat.blt n2.1 1000 = true ∧ n2 ≠ n ∧ g n2 = some (y, x) ∧ Cond.castable (xnm x) "java/lang/Object" ∈ lw_tbl) : xMet l s0 D yJ3_remove cJ3_remove 4 (some (.object "java/lang/Object")) (xr 2 0 0 100) [.ref a, .int 0] g (fun r g1 => r = some (va_rf (f 0)) ∧ g1 = xu (xu g nd (some (d, xAr (.object "java/lang/Object") N (va_up (va_cpy f f 1 0 (sz - 1)) (sz - 1) none)))) n (some (a, xO 21 [.int (mc + 1), .ref d, .int (nI (sz - 1))]))) := by
  refine xMet.of h0 (by decide +kernel) rfl ?_
  intro p e s m args below meth c hC hr hnm
  refine x_iload_n hC dJ3_remove_0 (q := 1) rfl rfl ?_
  refine x_aloadr_n hC dJ3_remove_1 (q := 2) rfl rfl ?_
  refine x_get hC xf_J3_48_21 dJ3_remove_2 (q := 5) rfl (n := n) hl rfl ?_
  refine x_callS hC xv_J3_118 dJ3_remove_5 (q := 8) rfl rfl (m_J15_checkIndex h0 g _ _ (by decide) ((nI_ltI (a := 0) (by omega) (by omega)).mpr (by omega))) rfl (Nat.le_of_ble_eq_true rfl) ⟨(Nat.le_of_ble_eq_true rfl), (Nat.le_of_ble_eq_true rfl)⟩ ⟨(Nat.le_of_ble_eq_true rfl), (Nat.le_of_ble_eq_true rfl)⟩ (fun v g1 hp => ?_)
  obtain ⟨rfl, hg1⟩ := hp
  replace hg1 := hg1.symm
  subst hg1
  refine x_pop hC dJ3_remove_8 (q := 9) rfl rfl ?_
  refine x_aloadr_n hC dJ3_remove_9 (q := 10) rfl rfl ?_
  refine x_get hC xf_J3_9_21 dJ3_remove_10 (q := 13) rfl (n := n) hl rfl ?_
  refine x_astorer_n hC dJ3_remove_13 (q := 14) rfl rfl ?_
  refine x_aloadr_n hC dJ3_remove_14 (q := 15) rfl rfl ?_
  refine x_iload_n hC dJ3_remove_15 (q := 16) rfl rfl ?_
  refine x_aald hC dJ3_remove_16 (q := 17) rfl (n := nd) ha (j := 0) rfl (by omega) hN rfl ?_
  refine x_astore_n hC dJ3_remove_17 (q := 18) rfl rfl (va_rf_or _) ?_
  refine x_aloadr_n hC dJ3_remove_18 (q := 19) rfl rfl ?_
  refine x_aloadr_n hC dJ3_remove_19 (q := 20) rfl rfl ?_
  refine x_iload_n hC dJ3_remove_20 (q := 21) rfl rfl ?_
  refine x_callV hC xv_J3_144 dJ3_remove_21 (q := 24) rfl rfl (m_J3_fastRemove_F h0 g hd1 hd2 hne hl ha hs hsN hN hel) (nn := n) hl rfl rfl (Nat.le_of_ble_eq_true rfl) ⟨(Nat.le_of_ble_eq_true rfl), (Nat.le_of_ble_eq_true rfl)⟩ ⟨(Nat.le_of_ble_eq_true rfl), (Nat.le_of_ble_eq_true rfl)⟩ (fun v g1 hp => ?_)
  obtain ⟨rfl, hg1⟩ := hp
  replace hg1 := hg1.symm
  subst hg1
  refine x_aload_n hC dJ3_remove_24 (q := 25) rfl rfl (va_rf_or _) ?_
  exact x_aret hC hr (Or.inl ⟨_, rfl⟩) (va_rf_or _) dJ3_remove_25 (Nat.le_of_ble_eq_true rfl) (Nat.le_of_ble_eq_true rfl) ⟨rfl, rfl⟩
