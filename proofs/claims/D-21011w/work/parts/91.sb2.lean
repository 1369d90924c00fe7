/-! StringBuilder: a text more, a number more -/
theorem sV_app {f : Nat → Int32} {cap : Nat} {w x : List Nat} (h : sV f cap w) (hx : sA x) (hl : w.length + x.length ≤ cap) : sV (va_cpy (sL x) f 0 w.length x.length) cap (w ++ x) := by
  obtain ⟨h1, h2, h3, h4⟩ := h
  refine ⟨fun j hj => ?_, by rw [List.length_append]; omega, h3, fun t ht => ?_⟩
  · rw [List.length_append] at hj
    unfold va_cpy
    by_cases e : j < w.length
    · rw [if_neg (by omega), gD_app e]; exact h1 j e
    · rw [if_pos (by omega), gD_appr (by omega)]
      show nI _ = nI _
      congr 2
      omega
  · unfold va_cpy
    split
    · exact fits_c (hx _)
    · exact h4 _ ht

set_option maxHeartbeats 4000000 in
set_option maxRecDepth 100000 in
theorem m_J6_getBytes {l : Launch} {s0 : State} {D : va_G} (h0 : x0 l s0 D) (g : xG) {nv : xN} {v cap : Nat} {f : Nat → Int32} {k kv : xN} {b u : Nat} {hr : List Value} {x : List Nat} (hk : g k = some (b, xO 23 (.ref u :: .int 0 :: hr))) (hkv : g kv = some (u, xAi .byte x.length (sL x))) (hx : sA x) (hd2 : Nat.blt nv.1 1000 = true) (hv : g nv = some (v, xAi .byte cap f)) {i : Nat} (hi : i + x.length ≤ cap) (hcap : cap < 2147483648) : xMet l s0 D yJ6_getBytes cJ6_getBytes 4 none (xr 1 0 0 40) [.ref b, .ref v, .int (nI i), .int 0] g (fun r g1 => r = none ∧ g1 = xu g nv (some (v, xAi .byte cap (va_cpy (sL x) f 0 i x.length)))) := by
  refine xMet.of h0 (by decide +kernel) rfl ?_
  intro zp ze zs zm za zb zf zc hC hr hnm
  refine x_aloadr_n hC dJ6_getBytes_0 (q := 1) rfl rfl ?_
  refine x_callV hC xv_J6_335 dJ6_getBytes_1 (q := 4) rfl rfl (m_J6_coder h0 g hk) (nn := k) hk rfl rfl (Nat.le_of_ble_eq_true rfl) ⟨(Nat.le_of_ble_eq_true rfl), (Nat.le_of_ble_eq_true rfl)⟩ ⟨(Nat.le_of_ble_eq_true rfl), (Nat.le_of_ble_eq_true rfl)⟩ (fun v g1 hp => ?_)
  obtain ⟨rfl, hg1⟩ := hp
  replace hg1 := hg1.symm
  subst hg1
  refine x_iload_n hC dJ6_getBytes_4 (q := 5) rfl rfl ?_
  refine x_icmp_ne hC dJ6_getBytes_5 (q := 8) rfl (tgt := 28) rfl (fun h5 => ?_) (fun h5 => ?_)
  · exact absurd rfl h5
  refine x_aloadr_n hC dJ6_getBytes_8 (q := 9) rfl rfl ?_
  refine x_get hC xf_J6_9_23 dJ6_getBytes_9 (q := 12) rfl (n := k) hk rfl ?_
  refine x_iconst hC dJ6_getBytes_12 (q := 13) rfl (v := (0)) (by decide) ?_
  refine x_aloadr_n hC dJ6_getBytes_13 (q := 14) rfl rfl ?_
  refine x_iload_n hC dJ6_getBytes_14 (q := 15) rfl rfl ?_
  refine x_iload_n hC dJ6_getBytes_15 (q := 16) rfl rfl ?_
  refine x_ishl hC dJ6_getBytes_16 (q := 17) rfl ?_
  rw [sx_shl0]
  refine x_aloadr_n hC dJ6_getBytes_17 (q := 18) rfl rfl ?_
  refine x_get hC xf_J6_9_23 dJ6_getBytes_18 (q := 21) rfl (n := k) hk rfl ?_
  refine x_alen hC dJ6_getBytes_21 (q := 22) rfl (n := kv) hkv ?_
  refine x_copyI hC q1217 dJ6_getBytes_22 (q := 25) rfl rfl (n0 := kv) (n1 := nv) (i := 0) (j := i) (k := x.length) hkv hd2 hv rfl rfl rfl (by omega) hi (by omega) hcap (fun t ht => fits_c (hx _)) (Nat.le_of_ble_eq_true rfl) (Nat.le_of_ble_eq_true rfl) ?_
  refine x_goto hC dJ6_getBytes_25 (tgt := 43) rfl ?_
  exact x_vret hC hr dJ6_getBytes_43 (Nat.le_of_ble_eq_true rfl) (Nat.le_of_ble_eq_true rfl) ⟨rfl, rfl⟩

set_option maxHeartbeats 4000000 in
set_option maxRecDepth 100000 in
theorem m_J4_inflateIfNeededFor {l : Launch} {s0 : State} {D : va_G} (h0 : x0 l s0 D) (g : xG) {n k : xN} {a v b u : Nat} {ml : Int32} {hr : List Value} (hk : g k = some (b, xO 23 (.ref u :: .int 0 :: hr))) {z : Int32} (hs : g n = some (a, xO 22 [.ref v, .int 0, .int ml, .int z])) : xMet l s0 D yJ4_inflateIfNeededFor cJ4_inflateIfNeededFor 2 none (xr 1 0 0 30) [.ref a, .ref b] g (fun r g1 => r = none ∧ g1 = g) := by
  refine xMet.of h0 (by decide +kernel) rfl ?_
  intro zp ze zs zm za zb zf zc hC hr hnm
  refine x_gets hC (xz_compact h0) (Or.inl q1009) dJ4_inflateIfNeededFor_0 (q := 3) rfl ?_
  refine x_if_eq hC dJ4_inflateIfNeededFor_3 (q := 6) rfl (tgt := 21) rfl (fun h3 => ?_) (fun h3 => ?_)
  · exact absurd h3 (by decide)
  refine x_aloadr_n hC dJ4_inflateIfNeededFor_6 (q := 7) rfl rfl ?_
  refine x_get hC xf_J4_22_22 dJ4_inflateIfNeededFor_7 (q := 10) rfl (n := n) hs rfl ?_
  refine x_aloadr_n hC dJ4_inflateIfNeededFor_10 (q := 11) rfl rfl ?_
  refine x_callV hC xv_J4_40 dJ4_inflateIfNeededFor_11 (q := 14) rfl rfl (m_J6_coder h0 g hk) (nn := k) hk rfl rfl (Nat.le_of_ble_eq_true rfl) ⟨(Nat.le_of_ble_eq_true rfl), (Nat.le_of_ble_eq_true rfl)⟩ ⟨(Nat.le_of_ble_eq_true rfl), (Nat.le_of_ble_eq_true rfl)⟩ (fun v g1 hp => ?_)
  obtain ⟨rfl, hg1⟩ := hp
  replace hg1 := hg1.symm
  subst hg1
  refine x_icmp_eq hC dJ4_inflateIfNeededFor_14 (q := 17) rfl (tgt := 21) rfl (fun h14 => ?_) (fun h14 => ?_)
  · exact x_vret hC hr dJ4_inflateIfNeededFor_21 (Nat.le_of_ble_eq_true rfl) (Nat.le_of_ble_eq_true rfl) ⟨rfl, rfl⟩
  · exact absurd rfl h14

set_option maxHeartbeats 4000000 in
set_option maxRecDepth 100000 in
theorem m_J4_putStringAt {l : Launch} {s0 : State} {D : va_G} (h0 : x0 l s0 D) (g : xG) {n nv : xN} {a v cap : Nat} {ml : Int32} {f : Nat → Int32} {k kv : xN} {b u : Nat} {hr : List Value} {x : List Nat} (hk : g k = some (b, xO 23 (.ref u :: .int 0 :: hr))) (hkv : g kv = some (u, xAi .byte x.length (sL x))) (hx : sA x) {z : Int32} (hd2 : Nat.blt nv.1 1000 = true) (hs : g n = some (a, xO 22 [.ref v, .int 0, .int ml, .int z])) (hv : g nv = some (v, xAi .byte cap f)) {i : Nat} (hi : i + x.length ≤ cap) (hcap : cap < 2147483648) : xMet l s0 D yJ4_putStringAt cJ4_putStringAt 3 none (xr 2 0 0 70) [.ref a, .int (nI i), .ref b] g (fun r g1 => r = none ∧ g1 = xu g nv (some (v, xAi .byte cap (va_cpy (sL x) f 0 i x.length)))) := by
  refine xMet.of h0 (by decide +kernel) rfl ?_
  intro zp ze zs zm za zb zf zc hC hr hnm
  refine x_aloadr_n hC dJ4_putStringAt_0 (q := 1) rfl rfl ?_
  refine x_aloadr_n hC dJ4_putStringAt_1 (q := 2) rfl rfl ?_
  refine x_callVP hC xv_J4_397 dJ4_putStringAt_2 (q := 5) rfl rfl (m_J4_inflateIfNeededFor h0 g hk hs) (nn := n) hs rfl rfl (Nat.le_of_ble_eq_true rfl) ⟨(Nat.le_of_ble_eq_true rfl), (Nat.le_of_ble_eq_true rfl)⟩ ⟨(Nat.le_of_ble_eq_true rfl), (Nat.le_of_ble_eq_true rfl)⟩ (fun v g1 hp => ?_)
  obtain ⟨rfl, hg1⟩ := hp
  replace hg1 := hg1.symm
  subst hg1
  refine x_aloadr_n hC dJ4_putStringAt_5 (q := 6) rfl rfl ?_
  refine x_aloadr_n hC dJ4_putStringAt_6 (q := 7) rfl rfl ?_
  refine x_get hC xf_J4_15_22 dJ4_putStringAt_7 (q := 10) rfl (n := n) hs rfl ?_
  refine x_iload_n hC dJ4_putStringAt_10 (q := 11) rfl rfl ?_
  refine x_aloadr_n hC dJ4_putStringAt_11 (q := 12) rfl rfl ?_
  refine x_get hC xf_J4_22_22 dJ4_putStringAt_12 (q := 15) rfl (n := n) hs rfl ?_
  refine x_callV hC xv_J4_399 dJ4_putStringAt_15 (q := 18) rfl rfl (m_J6_getBytes h0 g hk hkv hx hd2 hv hi hcap) (nn := k) hk rfl rfl (Nat.le_of_ble_eq_true rfl) ⟨(Nat.le_of_ble_eq_true rfl), (Nat.le_of_ble_eq_true rfl)⟩ ⟨(Nat.le_of_ble_eq_true rfl), (Nat.le_of_ble_eq_true rfl)⟩ (fun v g1 hp => ?_)
  obtain ⟨rfl, hg1⟩ := hp
  replace hg1 := hg1.symm
  subst hg1
  exact x_vret hC hr dJ4_putStringAt_18 (Nat.le_of_ble_eq_true rfl) (Nat.le_of_ble_eq_true rfl) ⟨rfl, rfl⟩

set_option maxHeartbeats 4000000 in
set_option maxRecDepth 100000 in
theorem m_J4_append_2 {l : Launch} {s0 : State} {D : va_G} (h0 : x0 l s0 D) (g : xG) {n nv : xN} {a v cap : Nat} {ml : Int32} {f : Nat → Int32} {w : List Nat} {nt : xN} (hdt : Nat.blt nt.1 1000 = true) (hnt : g nt = none) (hd1 : Nat.blt n.1 1000 = true) (hd2 : Nat.blt nv.1 1000 = true) (hs : g n = some (a, xO 22 [.ref v, .int 0, .int ml, .int (nI w.length)])) (hv : g nv = some (v, xAi .byte cap f)) (hV : sV f cap w) {k kv : xN} {b u : Nat} {hr : List Value} {x : List Nat} (hk : g k = some (b, xO 23 (.ref u :: .int 0 :: hr))) (hkv : g kv = some (u, xAi .byte x.length (sL x))) (hx : sA x) (hnk : kv ≠ nv) (hl : w.length + x.length < 1900) : xMet l s0 D yJ4_append_2 cJ4_append_2 3 (some (.object "java/lang/AbstractStringBuilder")) (xr 5 1 4096 200) [.ref a, .ref b] g (fun r g1 => ∃ v1 c1 f1, r = some (.ref a) ∧ sV f1 c1 (w ++ x) ∧ g1 = xu (xu g nv (some (v1, xAi .byte c1 f1))) n (some (a, xO 22 [.ref v1, .int 0, .int ml, .int (nI (w ++ x).length)]))) := by
  refine xMet.of h0 (by decide +kernel) rfl ?_
  intro zp ze zs zm za zb zf zc hC hr hnm
  have hne : n ≠ nv := fun q => by rw [q, hv] at hs; cases hs
  have hk1 : k ≠ n := fun q => by rw [q, hs] at hk; cases hk
  have hk2 : k ≠ nv := fun q => by rw [q, hv] at hk; cases hk
  have hk3 : kv ≠ n := fun q => by rw [q, hs] at hkv; cases hkv
  refine x_aloadr_n hC dJ4_append_2_0 (q := 1) rfl rfl ?_
  refine x_ifnonnull_r hC dJ4_append_2_1 (tgt := 9) rfl ?_
  refine x_aloadr_n hC dJ4_append_2_9 (q := 10) rfl rfl ?_
  refine x_callV hC xv_J4_32 dJ4_append_2_10 (q := 13) rfl rfl (m_J6_length h0 g hk hkv (by omega)) (nn := k) hk rfl rfl (Nat.le_of_ble_eq_true rfl) ⟨(Nat.le_of_ble_eq_true rfl), (Nat.le_of_ble_eq_true rfl)⟩ ⟨(Nat.le_of_ble_eq_true rfl), (Nat.le_of_ble_eq_true rfl)⟩ (fun v g1 hp => ?_)
  obtain ⟨rfl, hg1⟩ := hp
  replace hg1 := hg1.symm
  subst hg1
  refine x_istore_n hC dJ4_append_2_13 (q := 14) rfl rfl ?_
  refine x_aloadr_n hC dJ4_append_2_14 (q := 15) rfl rfl ?_
  refine x_aloadr_n hC dJ4_append_2_15 (q := 16) rfl rfl ?_
  refine x_get hC xf_J4_79_22 dJ4_append_2_16 (q := 19) rfl (n := n) hs rfl ?_
  refine x_iload_n hC dJ4_append_2_19 (q := 20) rfl rfl ?_
  refine x_iadd hC dJ4_append_2_20 (q := 21) rfl ?_
  rw [nI_add]
  refine x_callVP hC xv_J4_100 dJ4_append_2_21 (q := 24) rfl rfl (m_J4_ensureCapacityInternal h0 g hdt hnt hd1 hd2 hs hv hV (M := w.length + x.length) (by omega)) (nn := n) hs rfl rfl (Nat.le_of_ble_eq_true rfl) ⟨(Nat.le_of_ble_eq_true rfl), (Nat.le_of_ble_eq_true rfl)⟩ ⟨(Nat.le_of_ble_eq_true rfl), (Nat.le_of_ble_eq_true rfl)⟩ (fun v g1 hp => ?_)
  obtain ⟨v1, c1, f1, rfl, hV1, hM1, hg1⟩ := hp
  replace hg1 := hg1.symm
  subst hg1
  refine x_aloadr_n hC dJ4_append_2_24 (q := 25) rfl rfl ?_
  refine x_aloadr_n hC dJ4_append_2_25 (q := 26) rfl rfl ?_
  refine x_get hC xf_J4_79_22 dJ4_append_2_26 (q := 29) rfl (n := n) (xu_eq _ _ _) rfl ?_
  refine x_aloadr_n hC dJ4_append_2_29 (q := 30) rfl rfl ?_
  refine x_callVP hC xv_J4_208 dJ4_append_2_30 (q := 33) rfl rfl (m_J4_putStringAt h0 _ (n := n) (nv := nv) (k := k) (kv := kv) (x := x) (by rw [xu_ne hk1, xu_ne hk2]; exact hk) (by rw [xu_ne hk3, xu_ne hnk]; exact hkv) hx hd2 (xu_eq _ _ _) (by rw [xu_ne hne.symm, xu_eq]) hM1 (by have := hV1.2.2.1; omega)) (nn := n) (xu_eq _ _ _) rfl rfl (Nat.le_of_ble_eq_true rfl) ⟨(Nat.le_of_ble_eq_true rfl), (Nat.le_of_ble_eq_true rfl)⟩ ⟨(Nat.le_of_ble_eq_true rfl), (Nat.le_of_ble_eq_true rfl)⟩ (fun v g1 hp => ?_)
  obtain ⟨rfl, hg1⟩ := hp
  replace hg1 := hg1.symm
  subst hg1
  refine x_aloadr_n hC dJ4_append_2_33 (q := 34) rfl rfl ?_
  refine x_dup hC dJ4_append_2_34 (q := 35) rfl rfl ?_
  refine x_get hC xf_J4_79_22 dJ4_append_2_35 (q := 38) rfl (n := n) (by rw [xu_ne hne, xu_eq]) rfl ?_
  refine x_iload_n hC dJ4_append_2_38 (q := 39) rfl rfl ?_
  refine x_iadd hC dJ4_append_2_39 (q := 40) rfl ?_
  rw [nI_add]
  refine x_put hC (n := n) xf_J4_79_22 xd_22 hd1 dJ4_append_2_40 (q := 43) rfl (by rw [xu_ne hne, xu_eq]) rfl rfl rfl ?_
  refine x_aloadr_n hC dJ4_append_2_43 (q := 44) rfl rfl ?_
  exact x_aret hC hr (Or.inl ⟨_, rfl⟩) (Or.inr ⟨_, rfl⟩) dJ4_append_2_44 (Nat.le_of_ble_eq_true rfl) (Nat.le_of_ble_eq_true rfl) ⟨v1, c1, _, rfl, sV_app hV1 hx hM1, by rw [xu4' hne, List.length_append]; rfl⟩

set_option maxHeartbeats 4000000 in
set_option maxRecDepth 100000 in
theorem m_J5_append_2 {l : Launch} {s0 : State} {D : va_G} (h0 : x0 l s0 D) (g : xG) {n nv : xN} {a v cap : Nat} {ml : Int32} {f : Nat → Int32} {w : List Nat} {nt : xN} (hdt : Nat.blt nt.1 1000 = true) (hnt : g nt = none) (hd1 : Nat.blt n.1 1000 = true) (hd2 : Nat.blt nv.1 1000 = true) (hs : g n = some (a, xO 22 [.ref v, .int 0, .int ml, .int (nI w.length)])) (hv : g nv = some (v, xAi .byte cap f)) (hV : sV f cap w) {k kv : xN} {b u : Nat} {hr : List Value} {x : List Nat} (hk : g k = some (b, xO 23 (.ref u :: .int 0 :: hr))) (hkv : g kv = some (u, xAi .byte x.length (sL x))) (hx : sA x) (hnk : kv ≠ nv) (hl : w.length + x.length < 1900) : xMet l s0 D yJ5_append_2 cJ5_append_2 2 (some (.object "java/lang/StringBuilder")) (xr 6 1 4096 240) [.ref a, .ref b] g (fun r g1 => ∃ v1 c1 f1, r = some (.ref a) ∧ sV f1 c1 (w ++ x) ∧ g1 = xu (xu g nv (some (v1, xAi .byte c1 f1))) n (some (a, xO 22 [.ref v1, .int 0, .int ml, .int (nI (w ++ x).length)]))) := by
  refine xMet.of h0 (by decide +kernel) rfl ?_
  intro zp ze zs zm za zb zf zc hC hr hnm
  refine x_aloadr_n hC dJ5_append_2_0 (q := 1) rfl rfl ?_
  refine x_aloadr_n hC dJ5_append_2_1 (q := 2) rfl rfl ?_
  refine x_callSU hC xv_J5_29 dJ5_append_2_2 (q := 5) rfl rfl (m_J4_append_2 h0 g hdt hnt hd1 hd2 hs hv hV hk hkv hx hnk hl) (nn := n) hs rfl rfl (Nat.le_of_ble_eq_true rfl) ⟨(Nat.le_of_ble_eq_true rfl), (Nat.le_of_ble_eq_true rfl)⟩ ⟨(Nat.le_of_ble_eq_true rfl), (Nat.le_of_ble_eq_true rfl)⟩ (fun v g1 hp => ?_)
  obtain ⟨v1, c1, f1, rfl, hV1, hg1⟩ := hp
  replace hg1 := hg1.symm
  subst hg1
  refine x_pop hC dJ5_append_2_5 (q := 6) rfl rfl ?_
  refine x_aloadr_n hC dJ5_append_2_6 (q := 7) rfl rfl ?_
  exact x_aret hC hr (Or.inl ⟨_, rfl⟩) (Or.inr ⟨_, rfl⟩) dJ5_append_2_7 (Nat.le_of_ble_eq_true rfl) (Nat.le_of_ble_eq_true rfl) ⟨v1, c1, f1, rfl, hV1, rfl⟩

/-- the digits of a number below 1000 -/
def sD (z : Nat) : List Nat := if z < 10 then [48 + z] else if z < 100 then [48 + z / 10, 48 + z % 10] else [48 + z / 100, 48 + z / 10 % 10, 48 + z % 10]
theorem sD_all : ∀ z, z < 1000 → (sD z).all (fun c => Nat.blt c 128) = true := by decide +kernel
theorem sA_D {z : Nat} (h : z < 1000) : sA (sD z) := sA_of (sD_all z h)
theorem iI_nle {a b : Nat} (ha : a < 2147483648) (hb : b < 2147483648) : iI (-(a : Int)) ≤ iI (-(b : Int)) ↔ b ≤ a := by
  rw [iI_le ⟨by omega, by omega⟩ ⟨by omega, by omega⟩]
  omega
theorem neg_nI (z : Nat) : - nI z = iI (-(z : Int)) := by rw [← iI_nat, iI_neg]
theorem neg_iI (z : Nat) : - iI (-(z : Int)) = nI z := by rw [iI_neg, Int.neg_neg, iI_nat]

set_option maxHeartbeats 4000000 in
set_option maxRecDepth 100000 in
theorem m_J12_stringSize {l : Launch} {s0 : State} {D : va_G} (h0 : x0 l s0 D) (g : xG) {z : Nat} (hz : z < 1000) : xMet l s0 D yJ12_stringSize cJ12_stringSize 4 (some .int) (xr 0 0 0 0) [.int (nI z)] g (fun r g1 => r = some (.int (nI (sD z).length)) ∧ g1 = g) := by
  refine xMet.of h0 (by decide +kernel) rfl ?_
  intro zp ze zs zm za zb zf zc hC hr hnm
  refine x_iconst hC dJ12_stringSize_0 (q := 1) rfl (v := (1)) (by decide) ?_
  refine x_istore_n hC dJ12_stringSize_1 (q := 2) rfl rfl ?_
  refine x_iload_n hC dJ12_stringSize_2 (q := 3) rfl rfl ?_
  refine x_if_lt hC dJ12_stringSize_3 (q := 6) rfl (tgt := 11) rfl (fun h3 => ?_) (fun h3 => ?_)
  · exact absurd h3 (nI_pos (by omega))
  refine x_iconst hC dJ12_stringSize_6 (q := 7) rfl (v := (0)) (by decide) ?_
  refine x_istore_n hC dJ12_stringSize_7 (q := 8) rfl rfl ?_
  refine x_iload_n hC dJ12_stringSize_8 (q := 9) rfl rfl ?_
  refine x_ineg hC dJ12_stringSize_9 (q := 10) rfl ?_
  refine x_istore_n hC dJ12_stringSize_10 (q := 11) rfl rfl ?_
  rw [neg_nI]
  refine x_bipush hC dJ12_stringSize_11 (q := 13) rfl (v := (-10)) (by decide) ?_
  refine x_istore_n hC dJ12_stringSize_13 (q := 14) rfl rfl ?_
  rw [show (-10 : Int32) = iI (-((10 ^ 1 : Nat) : Int)) from by decide]
  refine x_iconst hC dJ12_stringSize_14 (q := 15) rfl (v := (1)) (by decide) ?_
  refine x_istore_n hC dJ12_stringSize_15 (q := 16) rfl rfl ?_
  refine x_loop (S := (fun i : Nat => ((0 : Nat), (0 : Nat), g, ([some (.int (iI (-(z : Int)))), some (.int 0), some (.int (iI (-((10 ^ i : Nat) : Int)))), some (.int (nI i))] : xL), ([] : List Value)))) (Inv := fun i => 1 ≤ i ∧ i ≤ 3 ∧ 10 ^ (i - 1) ≤ max z 1) (μ := fun i => 4 - i) ?_ 1 ⟨by decide, by decide, by show 1 ≤ max z 1; omega⟩
  intro i hi ih
  dsimp only at hi ih ⊢
  obtain ⟨hi1, hi3, hi2⟩ := hi
  refine x_iload_n hC dJ12_stringSize_16 (q := 17) rfl rfl ?_
  refine x_bipush hC dJ12_stringSize_17 (q := 19) rfl (v := (10)) (by decide) ?_
  refine x_icmp_ge hC dJ12_stringSize_19 (q := 22) rfl (tgt := 42) rfl (fun h19 => ?_) (fun h19 => ?_)
  · exact absurd (show nI 10 ≤ nI i from h19) (nI_ge (by omega) (by decide))
  have hp10 : 10 ^ i ≤ 1000 := by
    rcases (by omega : i = 1 ∨ i = 2 ∨ i = 3) with e | e | e <;> subst e <;> decide
  refine x_iload_n hC dJ12_stringSize_22 (q := 23) rfl rfl ?_
  refine x_iload_n hC dJ12_stringSize_23 (q := 24) rfl rfl ?_
  refine x_icmp_le hC dJ12_stringSize_24 (q := 27) rfl (tgt := 31) rfl (fun h24 => ?_) (fun h24 => ?_)
  · have hge : 10 ^ i ≤ z := by
      exact (iI_nle (by omega) (by omega)).mp h24
    have hi4 : i + 1 ≤ 3 := by
      rcases (by omega : i = 1 ∨ i = 2 ∨ i = 3) with e | e | e <;> subst e <;> omega
    refine x_bipush hC dJ12_stringSize_31 (q := 33) rfl (v := (10)) (by decide) ?_
    refine x_iload_n hC dJ12_stringSize_33 (q := 34) rfl rfl ?_
    refine x_imul hC dJ12_stringSize_34 (q := 35) rfl ?_
    rw [show (10 : Int32) * iI (-((10 ^ i : Nat) : Int)) = iI (-((10 ^ (i + 1) : Nat) : Int)) by
      rw [show (10 : Int32) = iI 10 from rfl, iI_mul, Nat.pow_succ]
      congr 1
      omega]
    refine x_istore_n hC dJ12_stringSize_35 (q := 36) rfl rfl ?_
    refine x_iinc hC dJ12_stringSize_36 (q := 39) rfl rfl (v := nI (i + 1)) (nI_1 i) ?_
    refine x_goto hC dJ12_stringSize_39 (tgt := 16) rfl ?_
    exact ih (i + 1) ⟨by omega, hi4, by rw [Nat.add_sub_cancel]; omega⟩ (by omega)
  have hlt : z < 10 ^ i := by
    exact Nat.lt_of_not_le (fun q => h24 ((iI_nle (by omega) (by omega)).mpr q))
  refine x_iload_n hC dJ12_stringSize_27 (q := 28) rfl rfl ?_
  refine x_iload_n hC dJ12_stringSize_28 (q := 29) rfl rfl ?_
  refine x_iadd hC dJ12_stringSize_29 (q := 30) rfl ?_
  exact x_iret hC hr dJ12_stringSize_30 (Nat.le_of_ble_eq_true rfl) (Nat.le_of_ble_eq_true rfl) ⟨by
    rw [show nI i + 0 = nI i from Int32.add_zero _]
    congr 3
    unfold sD
    rcases (by omega : i = 1 ∨ i = 2 ∨ i = 3) with e | e | e
    · subst e; rw [if_pos (by omega)]; rfl
    · subst e
      have : ¬ z < 10 := by have : 10 ≤ max z 1 := hi2; omega
      rw [if_neg this, if_pos (by omega)]; rfl
    · subst e
      have : ¬ z < 100 := by have : 100 ≤ max z 1 := hi2; omega
      rw [if_neg (by omega), if_neg this]; rfl, rfl⟩
