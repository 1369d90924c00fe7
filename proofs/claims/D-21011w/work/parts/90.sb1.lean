/-! StringBuilder: made, grown, one letter more -/
theorem sx_shl0 (x : Int32) : x <<< ((0 : Int32) &&& 31) = x := by
  rw [show ((0 : Int32) &&& 31) = 0 from rfl]; simp
theorem sx_shr0 (x : Int32) : x >>> ((0 : Int32) &&& 31) = x := by
  rw [show ((0 : Int32) &&& 31) = 0 from rfl]; simp
theorem sb_le {a b : Nat} (ha : a < 1048576) (hb : b < 1048576) : nI a - nI b ≤ 0 ↔ a ≤ b := by
  rw [← iI_nat, ← iI_nat, iI_sub, show (0 : Int32) = iI 0 from rfl, iI_le ⟨by omega, by omega⟩ ⟨by omega, by omega⟩]
  omega
/-- an array that holds a text, with room behind it -/
def sV (f : Nat → Int32) (cap : Nat) (w : List Nat) : Prop := sB f w ∧ w.length ≤ cap ∧ cap < 4096 ∧ ∀ t, t < cap → fits .byte (.int (f t)) = true
theorem fits_b (x : Int32) : fits .byte (.int (vp_nar .byte x)) = true := pk_fb x
theorem fits_c {c : Nat} (h : c < 128) : fits .byte (.int (nI c)) = true := by
  have := fits_b (nI c)
  rwa [(sb_all c h).2.1] at this
theorem sV_up {f : Nat → Int32} {cap : Nat} {w : List Nat} (h : sV f cap w) {c : Nat} (hc : c < 128) (hl : w.length + 1 ≤ cap) : sV (upd f w.length (nI c)) cap (w ++ [c]) := by
  obtain ⟨h1, h2, h3, h4⟩ := h
  refine ⟨fun j hj => ?_, by simp; omega, h3, fun t ht => ?_⟩
  · simp at hj
    by_cases e : j = w.length
    · subst e; simp [upd, List.getD_eq_getElem?_getD]
    · have hj2 : j < w.length := by omega
      have : (w ++ [c]).getD j 0 = w.getD j 0 := gD_app hj2
      simp only [upd, if_neg e, this]
      exact h1 j hj2
  · by_cases e : t = w.length
    · subst e; simp only [upd, if_pos]; exact fits_c hc
    · simp only [upd, if_neg e]; exact h4 t ht
theorem sV_cpy {f : Nat → Int32} {cap K : Nat} {w : List Nat} (h : sV f cap w) (hK : cap ≤ K) (hK2 : K < 4096) : sV (va_cpy f (fun _ => 0) 0 0 cap) K w := by
  obtain ⟨h1, h2, h3, h4⟩ := h
  refine ⟨fun j hj => ?_, by omega, hK2, fun t ht => ?_⟩
  · rw [← h1 j hj]
    unfold va_cpy
    rw [if_pos (by omega)]
    congr 1
    omega
  · unfold va_cpy
    split
    · exact h4 _ (by omega)
    · rfl

set_option maxHeartbeats 4000000 in
set_option maxRecDepth 100000 in
theorem m_J4_isLatin1 {l : Launch} {s0 : State} {D : va_G} (h0 : x0 l s0 D) (g : xG) {n : xN} {a v : Nat} {ml z : Int32} (hs : g n = some (a, xO 22 [.ref v, .int 0, .int ml, .int z])) : xMet l s0 D yJ4_isLatin1 cJ4_isLatin1 1 (some .boolean) (xr 0 0 0 0) [.ref a] g (fun r g1 => r = some (.int 1) ∧ g1 = g) := by
  refine xMet.of h0 (by decide +kernel) rfl ?_
  intro zp ze zs zm za zb zf zc hC hr hnm
  refine x_gets hC (xz_compact h0) (Or.inl q1009) dJ4_isLatin1_0 (q := 3) rfl ?_
  refine x_if_eq hC dJ4_isLatin1_3 (q := 6) rfl (tgt := 17) rfl (fun h3 => ?_) (fun h3 => ?_)
  · exact absurd h3 (by decide)
  refine x_aloadr_n hC dJ4_isLatin1_6 (q := 7) rfl rfl ?_
  refine x_get hC xf_J4_22_22 dJ4_isLatin1_7 (q := 10) rfl (n := n) hs rfl ?_
  refine x_if_ne hC dJ4_isLatin1_10 (q := 13) rfl (tgt := 17) rfl (fun h10 => ?_) (fun h10 => ?_)
  · exact absurd rfl h10
  refine x_iconst hC dJ4_isLatin1_13 (q := 14) rfl (v := (1)) (by decide) ?_
  refine x_goto hC dJ4_isLatin1_14 (tgt := 18) rfl ?_
  exact x_zret hC hr rfl dJ4_isLatin1_18 (Nat.le_of_ble_eq_true rfl) (Nat.le_of_ble_eq_true rfl) ⟨rfl, rfl⟩

set_option maxHeartbeats 4000000 in
set_option maxRecDepth 100000 in
theorem m_J11_canEncode {l : Launch} {s0 : State} {D : va_G} (h0 : x0 l s0 D) (g : xG) {c : Nat} (hc : c < 128) : xMet l s0 D yJ11_canEncode cJ11_canEncode 1 (some .boolean) (xr 0 0 0 0) [.int (nI c)] g (fun r g1 => r = some (.int 1) ∧ g1 = g) := by
  refine xMet.of h0 (by decide +kernel) rfl ?_
  intro zp ze zs zm za zb zf zc hC hr hnm
  refine x_iload_n hC dJ11_canEncode_0 (q := 1) rfl rfl ?_
  refine x_sipush hC dJ11_canEncode_1 (q := 4) rfl (v := (255)) (by decide) ?_
  refine x_icmp_gt hC dJ11_canEncode_4 (q := 7) rfl (tgt := 11) rfl (fun h4 => ?_) (fun h4 => ?_)
  · exact absurd h4 (nI_nlt (a := 255) (by omega) (by decide))
  refine x_iconst hC dJ11_canEncode_7 (q := 8) rfl (v := (1)) (by decide) ?_
  refine x_goto hC dJ11_canEncode_8 (tgt := 12) rfl ?_
  exact x_zret hC hr rfl dJ11_canEncode_12 (Nat.le_of_ble_eq_true rfl) (Nat.le_of_ble_eq_true rfl) ⟨rfl, rfl⟩

set_option maxHeartbeats 4000000 in
set_option maxRecDepth 100000 in
theorem m_J4_init {l : Launch} {s0 : State} {D : va_G} (h0 : x0 l s0 D) (g : xG) {n nv : xN} {a : Nat} (hd1 : Nat.blt n.1 1000 = true) (hd2 : Nat.blt nv.1 1000 = true) (hs : g n = some (a, xO 22 [.null, .int 0, .int 0, .int 0])) (hv : g nv = none) : xMet l s0 D yJ4_init cJ4_init 2 none (xr 1 1 16 30) [.ref a, .int 16] g (fun r g1 => ∃ v, r = none ∧ g1 = xu (xu g nv (some (v, xAi .byte 16 (fun _ => 0)))) n (some (a, xO 22 [.ref v, .int 0, .int 0, .int 0]))) := by
  refine xMet.of h0 (by decide +kernel) rfl ?_
  intro zp ze zs zm za zb zf zc hC hr hnm
  have hne : n ≠ nv := fun q => by rw [q, hv] at hs; cases hs
  refine x_aloadr_n hC dJ4_init_0 (q := 1) rfl rfl ?_
  refine x_objInit hC q1008 q124 q125 dJ4_init_1 (q := 4) rfl (by decide) (Nat.le_of_ble_eq_true rfl) (Nat.le_of_ble_eq_true rfl) ?_
  refine x_gets hC (xz_compact h0) (Or.inl q1009) dJ4_init_4 (q := 7) rfl ?_
  refine x_if_eq hC dJ4_init_7 (q := 10) rfl (tgt := 25) rfl (fun h7 => ?_) (fun h7 => ?_)
  · exact absurd h7 (by decide)
  refine x_aloadr_n hC dJ4_init_10 (q := 11) rfl rfl ?_
  refine x_iload_n hC dJ4_init_11 (q := 12) rfl rfl ?_
  refine x_newa hC (at0 := .byte) (N := 16) (x := (16, .inl (fun _ => 0))) nv q497 dJ4_init_12 (q := 14) rfl hd2 hv rfl (by decide) (fun _ => rfl) (Nat.le_of_ble_eq_true rfl) (Nat.le_of_ble_eq_true rfl) (fun a_12 => ?_)
  refine x_put hC (n := n) xf_J4_15_22 xd_22 hd1 dJ4_init_14 (q := 17) rfl (by rw [xu_ne hne]; exact hs) rfl rfl rfl ?_
  refine x_aloadr_n hC dJ4_init_17 (q := 18) rfl rfl ?_
  refine x_iconst hC dJ4_init_18 (q := 19) rfl (v := (0)) (by decide) ?_
  refine x_put hC (n := n) xf_J4_22_22 xd_22 hd1 dJ4_init_19 (q := 22) rfl (xu_eq _ _ _) rfl rfl rfl ?_
  refine x_goto hC dJ4_init_22 (tgt := 38) rfl ?_
  exact x_vret hC hr dJ4_init_38 (Nat.le_of_ble_eq_true rfl) (Nat.le_of_ble_eq_true rfl) ⟨_, rfl, by rw [xu_xu]; rfl⟩

set_option maxHeartbeats 4000000 in
set_option maxRecDepth 100000 in
theorem m_J5_init {l : Launch} {s0 : State} {D : va_G} (h0 : x0 l s0 D) (g : xG) {n nv : xN} {a : Nat} (hd1 : Nat.blt n.1 1000 = true) (hd2 : Nat.blt nv.1 1000 = true) (hs : g n = some (a, xO 22 [.null, .int 0, .int 0, .int 0])) (hv : g nv = none) : xMet l s0 D yJ5_init cJ5_init 1 none (xr 2 1 16 60) [.ref a] g (fun r g1 => ∃ v, r = none ∧ g1 = xu (xu g nv (some (v, xAi .byte 16 (fun _ => 0)))) n (some (a, xO 22 [.ref v, .int 0, .int 0, .int 0]))) := by
  refine xMet.of h0 (by decide +kernel) rfl ?_
  intro zp ze zs zm za zb zf zc hC hr hnm
  refine x_aloadr_n hC dJ5_init_0 (q := 1) rfl rfl ?_
  refine x_bipush hC dJ5_init_1 (q := 3) rfl (v := (16)) (by decide) ?_
  refine x_callI hC xv_J5_1 dJ5_init_3 (q := 6) rfl rfl (m_J4_init h0 g hd1 hd2 hs hv) rfl (Nat.le_of_ble_eq_true rfl) ⟨(Nat.le_of_ble_eq_true rfl), (Nat.le_of_ble_eq_true rfl)⟩ ⟨(Nat.le_of_ble_eq_true rfl), (Nat.le_of_ble_eq_true rfl)⟩ (fun v g1 hp => ?_)
  obtain ⟨v, rfl, hg1⟩ := hp
  replace hg1 := hg1.symm
  subst hg1
  exact x_vret hC hr dJ5_init_6 (Nat.le_of_ble_eq_true rfl) (Nat.le_of_ble_eq_true rfl) ⟨_, rfl, rfl⟩

set_option maxHeartbeats 4000000 in
set_option maxRecDepth 100000 in
theorem m_J8_newLength {l : Launch} {s0 : State} {D : va_G} (h0 : x0 l s0 D) (g : xG) {o x y : Nat} (hx : x < 100000) (hy : y < 100000) (ho : o < 100000) (h1 : 0 < y) : xMet l s0 D yJ8_newLength cJ8_newLength 4 (some .int) (xr 1 0 0 30) [.int (nI o), .int (nI x), .int (nI y)] g (fun r g1 => r = some (.int (nI (o + max x y))) ∧ g1 = g) := by
  refine xMet.of h0 (by decide +kernel) rfl ?_
  intro zp ze zs zm za zb zf zc hC hr hnm
  refine x_iload_n hC dJ8_newLength_0 (q := 1) rfl rfl ?_
  refine x_iload_n hC dJ8_newLength_1 (q := 2) rfl rfl ?_
  refine x_iload_n hC dJ8_newLength_2 (q := 3) rfl rfl ?_
  refine x_callS hC xv_J8_194 dJ8_newLength_3 (q := 6) rfl rfl (m_J0_max h0 g _ _) rfl (Nat.le_of_ble_eq_true rfl) ⟨(Nat.le_of_ble_eq_true rfl), (Nat.le_of_ble_eq_true rfl)⟩ ⟨(Nat.le_of_ble_eq_true rfl), (Nat.le_of_ble_eq_true rfl)⟩ (fun v g1 hp => ?_)
  rw [show (if nI x < nI y then nI y else nI x) = nI (max x y) by
    by_cases e : x < y
    · rw [if_pos (nI_lt e (by omega)), Nat.max_eq_right (by omega)]
    · rw [if_neg (nI_nlt (by omega) (by omega)), Nat.max_eq_left (by omega)]] at hp
  obtain ⟨rfl, hg1⟩ := hp
  replace hg1 := hg1.symm
  subst hg1
  refine x_iadd hC dJ8_newLength_6 (q := 7) rfl ?_
  rw [nI_add]
  refine x_istore_n hC dJ8_newLength_7 (q := 8) rfl rfl ?_
  refine x_iconst hC dJ8_newLength_8 (q := 9) rfl (v := (0)) (by decide) ?_
  refine x_iload_n hC dJ8_newLength_9 (q := 10) rfl rfl ?_
  refine x_icmp_ge hC dJ8_newLength_10 (q := 13) rfl (tgt := 21) rfl (fun h10 => ?_) (fun h10 => ?_)
  · exact absurd (show nI (o + max x y) ≤ nI 0 from h10) (nI_ge (by omega) (by omega))
  refine x_iload_n hC dJ8_newLength_13 (q := 14) rfl rfl ?_
  refine x_ldc hC dJ8_newLength_14 (q := 16) rfl q699 ?_
  refine x_icmp_gt hC dJ8_newLength_16 (q := 19) rfl (tgt := 21) rfl (fun h16 => ?_) (fun h16 => ?_)
  · exact absurd (show nI 2147483639 < nI (o + max x y) from h16) (nI_nlt (by omega) (by decide))
  refine x_iload_n hC dJ8_newLength_19 (q := 20) rfl rfl ?_
  exact x_iret hC hr dJ8_newLength_20 (Nat.le_of_ble_eq_true rfl) (Nat.le_of_ble_eq_true rfl) ⟨rfl, rfl⟩

set_option maxHeartbeats 4000000 in
set_option maxRecDepth 100000 in
theorem m_J4_newCapacity {l : Launch} {s0 : State} {D : va_G} (h0 : x0 l s0 D) (g : xG) {n nv : xN} {a v cap : Nat} {ml : Int32} {f : Nat → Int32} {w : List Nat} {M : Nat} (hs : g n = some (a, xO 22 [.ref v, .int 0, .int ml, .int (nI w.length)])) (hv : g nv = some (v, xAi .byte cap f)) (hV : sV f cap w) (hM : cap < M) (hM2 : M < 2000) : xMet l s0 D yJ4_newCapacity cJ4_newCapacity 6 (some .int) (xr 2 0 0 60) [.ref a, .int (nI M)] g (fun r g1 => r = some (.int (nI (cap + max (M - cap) (cap + 2)))) ∧ g1 = g) := by
  refine xMet.of h0 (by decide +kernel) rfl ?_
  intro zp ze zs zm za zb zf zc hC hr hnm
  refine x_aloadr_n hC dJ4_newCapacity_0 (q := 1) rfl rfl ?_
  refine x_get hC xf_J4_15_22 dJ4_newCapacity_1 (q := 4) rfl (n := n) hs rfl ?_
  refine x_alen hC dJ4_newCapacity_4 (q := 5) rfl (n := nv) hv ?_
  refine x_istore_n hC dJ4_newCapacity_5 (q := 6) rfl rfl ?_
  refine x_iload_n hC dJ4_newCapacity_6 (q := 7) rfl rfl ?_
  refine x_aloadr_n hC dJ4_newCapacity_7 (q := 8) rfl rfl ?_
  refine x_get hC xf_J4_22_22 dJ4_newCapacity_8 (q := 11) rfl (n := n) hs rfl ?_
  refine x_ishl hC dJ4_newCapacity_11 (q := 12) rfl ?_
  rw [sx_shl0]
  refine x_istore_n hC dJ4_newCapacity_12 (q := 13) rfl rfl ?_
  refine x_iload_n hC dJ4_newCapacity_13 (q := 14) rfl rfl ?_
  refine x_iload_n hC dJ4_newCapacity_14 (q := 15) rfl rfl ?_
  refine x_isub hC dJ4_newCapacity_15 (q := 16) rfl ?_
  rw [show nI M - nI cap = nI (M - cap) from nI_sub (by omega)]
  refine x_istore hC dJ4_newCapacity_16 (q := 18) rfl rfl ?_
  refine x_iload_n hC dJ4_newCapacity_18 (q := 19) rfl rfl ?_
  refine x_iload hC dJ4_newCapacity_19 (q := 21) rfl rfl ?_
  refine x_iload_n hC dJ4_newCapacity_21 (q := 22) rfl rfl ?_
  refine x_iconst hC dJ4_newCapacity_22 (q := 23) rfl (v := (2)) (by decide) ?_
  refine x_aloadr_n hC dJ4_newCapacity_23 (q := 24) rfl rfl ?_
  refine x_get hC xf_J4_22_22 dJ4_newCapacity_24 (q := 27) rfl (n := n) hs rfl ?_
  refine x_ishl hC dJ4_newCapacity_27 (q := 28) rfl ?_
  refine x_iadd hC dJ4_newCapacity_28 (q := 29) rfl ?_
  rw [show nI cap + (2 : Int32) <<< ((0 : Int32) &&& 31) = nI (cap + 2) by rw [sx_shl0]; exact nI_add cap 2]
  refine x_callS hC xv_J4_114 dJ4_newCapacity_29 (q := 32) rfl rfl (m_J8_newLength h0 g (o := cap) (x := M - cap) (y := cap + 2) (by have := hV.2.2.1; omega) (by have := hV.2.2.1; omega) (by have := hV.2.2.1; omega) (by omega)) rfl (Nat.le_of_ble_eq_true rfl) ⟨(Nat.le_of_ble_eq_true rfl), (Nat.le_of_ble_eq_true rfl)⟩ ⟨(Nat.le_of_ble_eq_true rfl), (Nat.le_of_ble_eq_true rfl)⟩ (fun v g1 hp => ?_)
  obtain ⟨rfl, hg1⟩ := hp
  replace hg1 := hg1.symm
  subst hg1
  refine x_istore hC dJ4_newCapacity_32 (q := 34) rfl rfl ?_
  refine x_iload hC dJ4_newCapacity_34 (q := 36) rfl rfl ?_
  refine x_ldc hC dJ4_newCapacity_36 (q := 38) rfl q1051 ?_
  refine x_icmp_ne hC dJ4_newCapacity_38 (q := 41) rfl (tgt := 51) rfl (fun h38 => ?_) (fun h38 => ?_)
  · refine x_iload hC dJ4_newCapacity_51 (q := 53) rfl rfl ?_
    refine x_aloadr_n hC dJ4_newCapacity_53 (q := 54) rfl rfl ?_
    refine x_get hC xf_J4_22_22 dJ4_newCapacity_54 (q := 57) rfl (n := n) hs rfl ?_
    refine x_ishr hC dJ4_newCapacity_57 (q := 58) rfl ?_
    exact x_iret hC hr dJ4_newCapacity_58 (Nat.le_of_ble_eq_true rfl) (Nat.le_of_ble_eq_true rfl) ⟨by rw [sx_shr0], rfl⟩
  · exact absurd (show nI 2147483647 = _ from h38.symm) (fun q => by have := (nI_eq (by decide) (by have := hV.2.2.1; omega)).mp q; have := hV.2.2.1; omega)

set_option maxHeartbeats 4000000 in
set_option maxRecDepth 100000 in
theorem m_J9_copyOf_3 {l : Launch} {s0 : State} {D : va_G} (h0 : x0 l s0 D) (g : xG) {nv nt : xN} {v cap K : Nat} {f : Nat → Int32} (hdt : Nat.blt nt.1 1000 = true) (hv : g nv = some (v, xAi .byte cap f)) (hnt : g nt = none) (hK : cap < K) (hK2 : K < 4096) (hft : ∀ t, t < cap → fits .byte (.int (f t)) = true) : xMet l s0 D yJ9_copyOf_3 cJ9_copyOf_3 3 (some (.array .byte)) (xr 1 1 4096 40) [.ref v, .int (nI K)] g (fun r g1 => ∃ d1, r = some (.ref d1) ∧ g1 = xu g nt (some (d1, xAi .byte K (va_cpy f (fun _ => 0) 0 0 cap)))) := by
  refine xMet.of h0 (by decide +kernel) rfl ?_
  intro zp ze zs zm za zb zf zc hC hr hnm
  refine x_iload_n hC dJ9_copyOf_3_0 (q := 1) rfl rfl ?_
  refine x_aloadr_n hC dJ9_copyOf_3_1 (q := 2) rfl rfl ?_
  refine x_alen hC dJ9_copyOf_3_2 (q := 3) rfl (n := nv) hv ?_
  refine x_icmp_ne hC dJ9_copyOf_3_3 (q := 6) rfl (tgt := 14) rfl (fun h3 => ?_) (fun h3 => ?_)
  · refine x_iload_n hC dJ9_copyOf_3_14 (q := 15) rfl rfl ?_
    refine x_newa hC (at0 := .byte) (N := K) (x := (K, .inl (fun _ => 0))) nt q497 dJ9_copyOf_3_15 (q := 17) rfl hdt hnt rfl (by omega) (fun _ => rfl) (Nat.le_of_ble_eq_true rfl) (by dsimp only; omega) (fun a_15 => ?_)
    refine x_astorer_n hC dJ9_copyOf_3_17 (q := 18) rfl rfl ?_
    have hne : nv ≠ nt := fun q => by rw [q, hnt] at hv; cases hv
    refine x_aloadr_n hC dJ9_copyOf_3_18 (q := 19) rfl rfl ?_
    refine x_iconst hC dJ9_copyOf_3_19 (q := 20) rfl (v := (0)) (by decide) ?_
    refine x_aloadr_n hC dJ9_copyOf_3_20 (q := 21) rfl rfl ?_
    refine x_iconst hC dJ9_copyOf_3_21 (q := 22) rfl (v := (0)) (by decide) ?_
    refine x_aloadr_n hC dJ9_copyOf_3_22 (q := 23) rfl rfl ?_
    refine x_alen hC dJ9_copyOf_3_23 (q := 24) rfl (n := nv) (by rw [xu_ne hne]; exact hv) ?_
    refine x_iload_n hC dJ9_copyOf_3_24 (q := 25) rfl rfl ?_
    refine x_callS hC xv_J9_304 dJ9_copyOf_3_25 (q := 28) rfl rfl (m_J0_min h0 _ _ _) rfl (Nat.le_of_ble_eq_true rfl) ⟨(Nat.le_of_ble_eq_true rfl), (Nat.le_of_ble_eq_true rfl)⟩ ⟨(Nat.le_of_ble_eq_true rfl), (by dsimp only; omega)⟩ (fun v g1 hp => ?_)
    rw [if_neg (nI_nlt (Nat.le_of_lt hK) (by omega))] at hp
    obtain ⟨rfl, hg1⟩ := hp
    replace hg1 := hg1.symm
    subst hg1
    refine x_copyI hC q744 dJ9_copyOf_3_28 (q := 31) rfl rfl (n0 := nv) (n1 := nt) (i := 0) (j := 0) (k := cap) (by rw [xu_ne hne]; exact hv) hdt (xu_eq _ _ _) rfl rfl rfl (by omega) (by omega) (by omega) (by omega) (fun t ht => by rw [Nat.zero_add]; exact hft t ht) (Nat.le_of_ble_eq_true rfl) (Nat.le_of_ble_eq_true rfl) ?_
    refine x_aloadr_n hC dJ9_copyOf_3_31 (q := 32) rfl rfl ?_
    exact x_aret hC hr (Or.inr ⟨_, rfl⟩) (Or.inr ⟨_, rfl⟩) dJ9_copyOf_3_32 (Nat.le_of_ble_eq_true rfl) (by dsimp only; omega) ⟨_, rfl, by rw [xu_xu]; rfl⟩
  · exact absurd h3 (fun q => by dsimp only at q; have := (nI_eq (by omega) (by omega)).mp q; omega)

set_option maxHeartbeats 4000000 in
set_option maxRecDepth 100000 in
theorem m_J4_ensureCapacityInternal {l : Launch} {s0 : State} {D : va_G} (h0 : x0 l s0 D) (g : xG) {n nv : xN} {a v cap : Nat} {ml : Int32} {f : Nat → Int32} {w : List Nat} {nt : xN} (hdt : Nat.blt nt.1 1000 = true) (hnt : g nt = none) (hd1 : Nat.blt n.1 1000 = true) (hd2 : Nat.blt nv.1 1000 = true) (hs : g n = some (a, xO 22 [.ref v, .int 0, .int ml, .int (nI w.length)])) (hv : g nv = some (v, xAi .byte cap f)) (hV : sV f cap w) {M : Nat} (hM2 : M < 2000) : xMet l s0 D yJ4_ensureCapacityInternal cJ4_ensureCapacityInternal 3 none (xr 4 1 4096 150) [.ref a, .int (nI M)] g (fun r g1 => ∃ v1 c1 f1, r = none ∧ sV f1 c1 w ∧ M ≤ c1 ∧ g1 = xu (xu g nv (some (v1, xAi .byte c1 f1))) n (some (a, xO 22 [.ref v1, .int 0, .int ml, .int (nI w.length)]))) := by
  refine xMet.of h0 (by decide +kernel) rfl ?_
  intro zp ze zs zm za zb zf zc hC hr hnm
  have hne : n ≠ nv := fun q => by rw [q, hv] at hs; cases hs
  have hcap := hV.2.2.1
  refine x_aloadr_n hC dJ4_ensureCapacityInternal_0 (q := 1) rfl rfl ?_
  refine x_get hC xf_J4_15_22 dJ4_ensureCapacityInternal_1 (q := 4) rfl (n := n) hs rfl ?_
  refine x_alen hC dJ4_ensureCapacityInternal_4 (q := 5) rfl (n := nv) hv ?_
  refine x_aloadr_n hC dJ4_ensureCapacityInternal_5 (q := 6) rfl rfl ?_
  refine x_get hC xf_J4_22_22 dJ4_ensureCapacityInternal_6 (q := 9) rfl (n := n) hs rfl ?_
  refine x_ishr hC dJ4_ensureCapacityInternal_9 (q := 10) rfl ?_
  refine x_istore_n hC dJ4_ensureCapacityInternal_10 (q := 11) rfl rfl ?_
  rw [sx_shr0]
  refine x_iload_n hC dJ4_ensureCapacityInternal_11 (q := 12) rfl rfl ?_
  refine x_iload_n hC dJ4_ensureCapacityInternal_12 (q := 13) rfl rfl ?_
  refine x_isub hC dJ4_ensureCapacityInternal_13 (q := 14) rfl ?_
  refine x_if_le hC dJ4_ensureCapacityInternal_14 (q := 17) rfl (tgt := 38) rfl (fun h14 => ?_) (fun h14 => ?_)
  · have hMc : M ≤ cap := (sb_le (by omega) (by omega)).mp h14
    exact x_vret hC hr dJ4_ensureCapacityInternal_38 (Nat.le_of_ble_eq_true rfl) (Nat.le_of_ble_eq_true rfl) (by first | exact ⟨v, cap, f, rfl, hV, hMc, by rw [xu_self hv, xu_self hs]⟩ | exact ⟨d1, _, _, rfl, sV_cpy hV (by omega) hK.2, by omega, rfl⟩)
  have h14b : ¬ nI M - nI cap ≤ 0 := h14
  have hMc : cap < M := Nat.lt_of_not_le (fun q => h14b ((sb_le (by omega) (by omega)).mpr q))
  have hK : cap < (cap + max (M - cap) (cap + 2)) ∧ (cap + max (M - cap) (cap + 2)) < 4096 := by omega
  refine x_aloadr_n hC dJ4_ensureCapacityInternal_17 (q := 18) rfl rfl ?_
  refine x_aloadr_n hC dJ4_ensureCapacityInternal_18 (q := 19) rfl rfl ?_
  refine x_get hC xf_J4_15_22 dJ4_ensureCapacityInternal_19 (q := 22) rfl (n := n) hs rfl ?_
  refine x_aloadr_n hC dJ4_ensureCapacityInternal_22 (q := 23) rfl rfl ?_
  refine x_iload_n hC dJ4_ensureCapacityInternal_23 (q := 24) rfl rfl ?_
  refine x_callVP hC xv_J4_104 dJ4_ensureCapacityInternal_24 (q := 27) rfl rfl (m_J4_newCapacity h0 g hs hv hV hMc hM2) (nn := n) hs rfl rfl (Nat.le_of_ble_eq_true rfl) ⟨(Nat.le_of_ble_eq_true rfl), (Nat.le_of_ble_eq_true rfl)⟩ ⟨(Nat.le_of_ble_eq_true rfl), (Nat.le_of_ble_eq_true rfl)⟩ (fun v g1 hp => ?_)
  obtain ⟨rfl, hg1⟩ := hp
  replace hg1 := hg1.symm
  subst hg1
  refine x_aloadr_n hC dJ4_ensureCapacityInternal_27 (q := 28) rfl rfl ?_
  refine x_get hC xf_J4_22_22 dJ4_ensureCapacityInternal_28 (q := 31) rfl (n := n) hs rfl ?_
  refine x_ishl hC dJ4_ensureCapacityInternal_31 (q := 32) rfl ?_
  rw [sx_shl0]
  refine x_callS hC xv_J4_108 dJ4_ensureCapacityInternal_32 (q := 35) rfl rfl (m_J9_copyOf_3 h0 g hdt hv hnt hK.1 hK.2 hV.2.2.2) rfl (Nat.le_of_ble_eq_true rfl) ⟨(Nat.le_of_ble_eq_true rfl), (Nat.le_of_ble_eq_true rfl)⟩ ⟨(Nat.le_of_ble_eq_true rfl), (Nat.le_of_ble_eq_true rfl)⟩ (fun v g1 hp => ?_)
  obtain ⟨d1, rfl, hg1⟩ := hp
  replace hg1 := hg1.symm
  subst hg1
  refine x_put hC (n := n) xf_J4_15_22 xd_22 hd1 dJ4_ensureCapacityInternal_35 (q := 38) rfl (by rw [xu_ne (fun q => by rw [q, hnt] at hs; cases hs)]; exact hs) rfl rfl rfl ?_
  have ht1 : n ≠ nt := fun q => by rw [q, hnt] at hs; cases hs
  have ht2 : nv ≠ nt := fun q => by rw [q, hnt] at hv; cases hv
  refine x_drop nv ?_
  refine x_ren nt nv hdt hd2 (xu_eq _ _ _) ?_
  refine x_geq (g' := xu (xu g nv (some (d1, xAi .byte ((cap + max (M - cap) (cap + 2))) (va_cpy f (fun _ => 0) 0 0 cap)))) n (some (a, xO 22 [.ref d1, .int 0, .int ml, .int (nI w.length)]))) (by
    rw [xu_ne ht2.symm, xu_ne ht1.symm, xu_eq]
    funext k
    unfold xu
    by_cases e1 : k = n
    · subst e1; simp [hne, ht1]
    · by_cases e2 : k = nv
      · subst e2; simp [e1]
      · by_cases e3 : k = nt
        · subst e3; simp [e2, e1, hnt]
        · simp [e1, e2, e3]) ?_
  exact x_vret hC hr dJ4_ensureCapacityInternal_38 (Nat.le_of_ble_eq_true rfl) (Nat.le_of_ble_eq_true rfl) (by first | exact ⟨v, cap, f, rfl, hV, hMc, by rw [xu_self hv, xu_self hs]⟩ | exact ⟨d1, _, _, rfl, sV_cpy hV (by omega) hK.2, by omega, rfl⟩)

theorem xu4 {g : xG} {n nv : xN} (h : n ≠ nv) (x y x2 y2 : Option (Nat × xE)) : xu (xu (xu (xu g nv x) n y) n y2) nv x2 = xu (xu g nv x2) n y2 := by
  funext k
  unfold xu
  by_cases e1 : k = n
  · subst e1; simp [h]
  · by_cases e2 : k = nv
    · subst e2; simp [e1]
    · simp [e1, e2]
theorem xu4' {g : xG} {n nv : xN} (h : n ≠ nv) (x y x2 y2 : Option (Nat × xE)) : xu (xu (xu (xu g nv x) n y) nv x2) n y2 = xu (xu g nv x2) n y2 := by
  funext k
  unfold xu
  by_cases e1 : k = n
  · subst e1; simp
  · by_cases e2 : k = nv
    · subst e2; simp [e1]
    · simp [e1, e2]

set_option maxHeartbeats 4000000 in
set_option maxRecDepth 100000 in
theorem m_J4_append {l : Launch} {s0 : State} {D : va_G} (h0 : x0 l s0 D) (g : xG) {n nv : xN} {a v cap : Nat} {ml : Int32} {f : Nat → Int32} {w : List Nat} {nt : xN} (hdt : Nat.blt nt.1 1000 = true) (hnt : g nt = none) (hd1 : Nat.blt n.1 1000 = true) (hd2 : Nat.blt nv.1 1000 = true) (hs : g n = some (a, xO 22 [.ref v, .int 0, .int ml, .int (nI w.length)])) (hv : g nv = some (v, xAi .byte cap f)) (hV : sV f cap w) {c : Nat} (hc : c < 128) (hl : w.length < 1900) : xMet l s0 D yJ4_append cJ4_append 2 (some (.object "java/lang/AbstractStringBuilder")) (xr 5 1 4096 200) [.ref a, .int (nI c)] g (fun r g1 => ∃ v1 c1 f1, r = some (.ref a) ∧ sV f1 c1 (w ++ [c]) ∧ g1 = xu (xu g nv (some (v1, xAi .byte c1 f1))) n (some (a, xO 22 [.ref v1, .int 0, .int ml, .int (nI (w ++ [c]).length)]))) := by
  refine xMet.of h0 (by decide +kernel) rfl ?_
  intro zp ze zs zm za zb zf zc hC hr hnm
  have hne : n ≠ nv := fun q => by rw [q, hv] at hs; cases hs
  refine x_aloadr_n hC dJ4_append_0 (q := 1) rfl rfl ?_
  refine x_aloadr_n hC dJ4_append_1 (q := 2) rfl rfl ?_
  refine x_get hC xf_J4_79_22 dJ4_append_2 (q := 5) rfl (n := n) hs rfl ?_
  refine x_iconst hC dJ4_append_5 (q := 6) rfl (v := (1)) (by decide) ?_
  refine x_iadd hC dJ4_append_6 (q := 7) rfl ?_
  rw [nI_1]
  refine x_callVP hC xv_J4_100 dJ4_append_7 (q := 10) rfl rfl (m_J4_ensureCapacityInternal h0 g hdt hnt hd1 hd2 hs hv hV (M := w.length + 1) (by omega)) (nn := n) hs rfl rfl (Nat.le_of_ble_eq_true rfl) ⟨(Nat.le_of_ble_eq_true rfl), (Nat.le_of_ble_eq_true rfl)⟩ ⟨(Nat.le_of_ble_eq_true rfl), (Nat.le_of_ble_eq_true rfl)⟩ (fun v g1 hp => ?_)
  obtain ⟨v1, c1, f1, rfl, hV1, hM1, hg1⟩ := hp
  replace hg1 := hg1.symm
  subst hg1
  refine x_aloadr_n hC dJ4_append_10 (q := 11) rfl rfl ?_
  refine x_callU hC xv_J4_83 dJ4_append_11 (q := 14) rfl rfl (m_J4_isLatin1 h0 _ (n := n) (xu_eq _ _ _)) (nn := n) (xu_eq _ _ _) rfl rfl (Nat.le_of_ble_eq_true rfl) ⟨(Nat.le_of_ble_eq_true rfl), (Nat.le_of_ble_eq_true rfl)⟩ ⟨(Nat.le_of_ble_eq_true rfl), (Nat.le_of_ble_eq_true rfl)⟩ (fun v g1 hp => ?_)
  obtain ⟨rfl, hg1⟩ := hp
  replace hg1 := hg1.symm
  subst hg1
  refine x_if_eq hC dJ4_append_14 (q := 17) rfl (tgt := 45) rfl (fun h14 => ?_) (fun h14 => ?_)
  · exact absurd h14 (by decide)
  refine x_iload_n hC dJ4_append_17 (q := 18) rfl rfl ?_
  refine x_callS hC xv_J4_191 dJ4_append_18 (q := 21) rfl rfl (m_J11_canEncode h0 _ hc) rfl (Nat.le_of_ble_eq_true rfl) ⟨(Nat.le_of_ble_eq_true rfl), (Nat.le_of_ble_eq_true rfl)⟩ ⟨(Nat.le_of_ble_eq_true rfl), (Nat.le_of_ble_eq_true rfl)⟩ (fun v g1 hp => ?_)
  obtain ⟨rfl, hg1⟩ := hp
  replace hg1 := hg1.symm
  subst hg1
  refine x_if_eq hC dJ4_append_21 (q := 24) rfl (tgt := 45) rfl (fun h21 => ?_) (fun h21 => ?_)
  · exact absurd h21 (by decide)
  refine x_aloadr_n hC dJ4_append_24 (q := 25) rfl rfl ?_
  refine x_get hC xf_J4_15_22 dJ4_append_25 (q := 28) rfl (n := n) (xu_eq _ _ _) rfl ?_
  refine x_aloadr_n hC dJ4_append_28 (q := 29) rfl rfl ?_
  refine x_dup hC dJ4_append_29 (q := 30) rfl rfl ?_
  refine x_get hC xf_J4_79_22 dJ4_append_30 (q := 33) rfl (n := n) (xu_eq _ _ _) rfl ?_
  refine x_dup_x1 hC dJ4_append_33 (q := 34) rfl rfl rfl ?_
  refine x_iconst hC dJ4_append_34 (q := 35) rfl (v := (1)) (by decide) ?_
  refine x_iadd hC dJ4_append_35 (q := 36) rfl ?_
  rw [nI_1]
  refine x_put hC (n := n) xf_J4_79_22 xd_22 hd1 dJ4_append_36 (q := 39) rfl (xu_eq _ _ _) rfl rfl rfl ?_
  refine x_iload_n hC dJ4_append_39 (q := 40) rfl rfl ?_
  refine x_i2b hC dJ4_append_40 (q := 41) rfl ?_
  refine x_bast hC dJ4_append_41 (q := 42) rfl (n := nv) hd2 (by rw [xu_ne hne.symm, xu_ne hne.symm, xu_eq]) (j := w.length) rfl (by omega) (by have := hV1.2.2.1; omega) ?_
  refine x_goto hC dJ4_append_42 (tgt := 75) rfl ?_
  refine x_aloadr_n hC dJ4_append_75 (q := 76) rfl rfl ?_
  exact x_aret hC hr (Or.inl ⟨_, rfl⟩) (Or.inr ⟨_, rfl⟩) dJ4_append_76 (Nat.le_of_ble_eq_true rfl) (Nat.le_of_ble_eq_true rfl) ⟨v1, c1, upd f1 w.length (nI c), rfl, sV_up hV1 hc hM1, by rw [xu4 hne, (sb_all c hc).1, (sb_all c hc).2.1, List.length_append]; rfl⟩

set_option maxHeartbeats 4000000 in
set_option maxRecDepth 100000 in
theorem m_J5_append {l : Launch} {s0 : State} {D : va_G} (h0 : x0 l s0 D) (g : xG) {n nv : xN} {a v cap : Nat} {ml : Int32} {f : Nat → Int32} {w : List Nat} {nt : xN} (hdt : Nat.blt nt.1 1000 = true) (hnt : g nt = none) (hd1 : Nat.blt n.1 1000 = true) (hd2 : Nat.blt nv.1 1000 = true) (hs : g n = some (a, xO 22 [.ref v, .int 0, .int ml, .int (nI w.length)])) (hv : g nv = some (v, xAi .byte cap f)) (hV : sV f cap w) {c : Nat} (hc : c < 128) (hl : w.length < 1900) : xMet l s0 D yJ5_append cJ5_append 2 (some (.object "java/lang/StringBuilder")) (xr 6 1 4096 240) [.ref a, .int (nI c)] g (fun r g1 => ∃ v1 c1 f1, r = some (.ref a) ∧ sV f1 c1 (w ++ [c]) ∧ g1 = xu (xu g nv (some (v1, xAi .byte c1 f1))) n (some (a, xO 22 [.ref v1, .int 0, .int ml, .int (nI (w ++ [c]).length)]))) := by
  refine xMet.of h0 (by decide +kernel) rfl ?_
  intro zp ze zs zm za zb zf zc hC hr hnm
  refine x_aloadr_n hC dJ5_append_0 (q := 1) rfl rfl ?_
  refine x_iload_n hC dJ5_append_1 (q := 2) rfl rfl ?_
  refine x_callSU hC xv_J5_50 dJ5_append_2 (q := 5) rfl rfl (m_J4_append h0 g hdt hnt hd1 hd2 hs hv hV hc hl) (nn := n) hs rfl rfl (Nat.le_of_ble_eq_true rfl) ⟨(Nat.le_of_ble_eq_true rfl), (Nat.le_of_ble_eq_true rfl)⟩ ⟨(Nat.le_of_ble_eq_true rfl), (Nat.le_of_ble_eq_true rfl)⟩ (fun v g1 hp => ?_)
  obtain ⟨v1, c1, f1, rfl, hV1, hg1⟩ := hp
  replace hg1 := hg1.symm
  subst hg1
  refine x_pop hC dJ5_append_5 (q := 6) rfl rfl ?_
  refine x_aloadr_n hC dJ5_append_6 (q := 7) rfl rfl ?_
  exact x_aret hC hr (Or.inl ⟨_, rfl⟩) (Or.inr ⟨_, rfl⟩) dJ5_append_7 (Nat.le_of_ble_eq_true rfl) (Nat.le_of_ble_eq_true rfl) ⟨v1, c1, f1, rfl, hV1, rfl⟩
