/-! a number's digits -/
/-- the text is laid behind k - its length -/
def sP (f : Nat → Int32) (k : Nat) (x : List Nat) : Nat → Int32 := fun j => if k ≤ j + x.length ∧ j < k then nI (x.getD (j + x.length - k) 0) else f j
theorem sV_P {f : Nat → Int32} {cap : Nat} {w x : List Nat} (h : sV f cap w) (hx : sA x) (hl : w.length + x.length ≤ cap) : sV (sP f (w.length + x.length) x) cap (w ++ x) := by
  obtain ⟨h1, h2, h3, h4⟩ := h
  refine ⟨fun j hj => ?_, by rw [List.length_append]; omega, h3, fun t ht => ?_⟩
  · rw [List.length_append] at hj
    unfold sP
    by_cases e : j < w.length
    · rw [if_neg (by omega), gD_app e]; exact h1 j e
    · rw [if_pos (by omega), gD_appr (by omega)]
      congr 2
      omega
  · unfold sP
    split
    · exact fits_c (hx _)
    · exact h4 _ ht
theorem sP_1 {f : Nat → Int32} {k a : Nat} (h : 1 ≤ k) : upd f (k - 1) (nI a) = sP f k [a] := by
  funext j
  unfold sP upd
  simp only [List.length_singleton]
  by_cases e : j = k - 1
  · rw [if_pos e, if_pos (by omega), show j + 1 - k = 0 by omega]; rfl
  · rw [if_neg e, if_neg (by omega)]
theorem sP_2 {f : Nat → Int32} {k a b : Nat} (h : 2 ≤ k) : upd (upd f (k - 1) (nI b)) (k - 2) (nI a) = sP f k [a, b] := by
  funext j
  unfold sP upd
  simp only [List.length_cons, List.length_nil]
  by_cases e : j = k - 2
  · rw [if_pos e, if_pos (by omega), show j + (0 + 1 + 1) - k = 0 by omega]; rfl
  · rw [if_neg e]
    by_cases e1 : j = k - 1
    · rw [if_pos e1, if_pos (by omega), show j + (0 + 1 + 1) - k = 1 by omega]; rfl
    · rw [if_neg e1, if_neg (by omega)]
theorem sP_3 {f : Nat → Int32} {k a b c : Nat} (h : 3 ≤ k) : upd (upd (upd f (k - 1) (nI c)) (k - 2) (nI b)) (k - 3) (nI a) = sP f k [a, b, c] := by
  funext j
  unfold sP upd
  simp only [List.length_cons, List.length_nil]
  by_cases e : j = k - 3
  · rw [if_pos e, if_pos (by omega), show j + (0 + 1 + 1 + 1) - k = 0 by omega]; rfl
  · rw [if_neg e]
    by_cases e1 : j = k - 2
    · rw [if_pos e1, if_pos (by omega), show j + (0 + 1 + 1 + 1) - k = 1 by omega]; rfl
    · rw [if_neg e1]
      by_cases e2 : j = k - 1
      · rw [if_pos e2, if_pos (by omega), show j + (0 + 1 + 1 + 1) - k = 2 by omega]; rfl
      · rw [if_neg e2, if_neg (by omega)]
theorem nI_dec {k : Nat} (h : 1 ≤ k) : nI k + (-1) = nI (k - 1) := by
  rw [← nI_m1 (by omega), Int32.sub_eq_add_neg]
theorem dv100 : ∀ z : Nat, z < 1000 → iI (-(z : Int)) / 100 = iI (-((z / 100 : Nat) : Int)) ∧ iI (-((z / 100 : Nat) : Int)) * 100 - iI (-(z : Int)) = nI (z % 100) := by decide +kernel

set_option maxHeartbeats 4000000 in
set_option maxRecDepth 100000 in
theorem m_J12_getChars_1 {l : Launch} {s0 : State} {D : va_G} (h0 : x0 l s0 D) (g : xG) {nv : xN} {v cap : Nat} {f : Nat → Int32} {A V B : Nat → Nat} (hS : KS0 s0 A V B) (hK : KG g A V B) (hd2 : Nat.blt nv.1 1000 = true) (hv : g nv = some (v, xAi .byte cap f)) (hcap : cap < 4096) {k : Nat} (hk : k ≤ cap) {z : Nat} (hz : z < 10) (hkz : 1 ≤ k) : xMet l s0 D yJ12_getChars cJ12_getChars 7 (some .int) (xr 0 0 0 0) [.int (nI z), .int (nI k), .ref v] g (fun r g1 => r = some (.int (nI (k - 1))) ∧ g1 = xu g nv (some (v, xAi .byte cap (sP f k (sD z))))) := by
  refine xMet.of h0 (by decide +kernel) rfl ?_
  intro zp ze zs zm za zb zf zc hC hr hnm
  refine x_iload_n hC dJ12_getChars_0 (q := 1) rfl rfl ?_
  refine x_istore hC dJ12_getChars_1 (q := 3) rfl rfl ?_
  refine x_iload_n hC dJ12_getChars_3 (q := 4) rfl rfl ?_
  refine x_if_ge hC dJ12_getChars_4 (q := 7) rfl (tgt := 11) rfl (fun h4 => ?_) (fun h4 => ?_)
  · skip
    refine x_iconst hC dJ12_getChars_11 (q := 12) rfl (v := (0)) (by decide) ?_
    refine x_istore hC dJ12_getChars_12 (q := 14) rfl rfl ?_
    refine x_iload hC dJ12_getChars_14 (q := 16) rfl rfl ?_
    refine x_if_ne hC dJ12_getChars_16 (q := 19) rfl (tgt := 22) rfl (fun h16 => ?_) (fun h16 => ?_)
    · exact absurd rfl h16
    refine x_iload_n hC dJ12_getChars_19 (q := 20) rfl rfl ?_
    refine x_ineg hC dJ12_getChars_20 (q := 21) rfl ?_
    refine x_istore_n hC dJ12_getChars_21 (q := 22) rfl rfl ?_
    rw [neg_nI]
    refine x_iload_n hC dJ12_getChars_22 (q := 23) rfl rfl ?_
    refine x_bipush hC dJ12_getChars_23 (q := 25) rfl (v := (-100)) (by decide) ?_
    refine x_icmp_gt hC dJ12_getChars_25 (q := 28) rfl (tgt := 72) rfl (fun h25 => ?_) (fun h25 => ?_)
    · skip
      refine x_aloadr_n hC dJ12_getChars_72 (q := 73) rfl rfl ?_
      refine x_iinc hC dJ12_getChars_73 (q := 76) rfl rfl (v := nI (k - 1)) (nI_dec (by omega)) ?_
      refine x_iload hC dJ12_getChars_76 (q := 78) rfl rfl ?_
      refine x_gets hC ((hS.2 6 (by decide)).1) (Or.inl q1234) dJ12_getChars_78 (q := 81) rfl ?_
      refine x_iload_n hC dJ12_getChars_81 (q := 82) rfl rfl ?_
      refine x_ineg hC dJ12_getChars_82 (q := 83) rfl ?_
      rw [neg_iI]
      refine x_bald hC dJ12_getChars_83 (q := 84) rfl (n := (1003, 6)) (hK.a 6 rfl) (j := z) rfl (by omega) (by decide) ?_
      refine x_bast hC dJ12_getChars_84 (q := 85) rfl (n := nv) hd2 hv (j := k - 1) rfl (by omega) (by omega) ?_
      refine x_iload_n hC dJ12_getChars_85 (q := 86) rfl rfl ?_
      refine x_bipush hC dJ12_getChars_86 (q := 88) rfl (v := (-9)) (by decide) ?_
      refine x_icmp_ge hC dJ12_getChars_88 (q := 91) rfl (tgt := 104) rfl (fun h88 => ?_) (fun h88 => ?_)
      · refine x_iload hC dJ12_getChars_104 (q := 106) rfl rfl ?_
        refine x_if_eq hC dJ12_getChars_106 (q := 109) rfl (tgt := 118) rfl (fun h106 => ?_) (fun h106 => ?_)
        · refine x_iload hC dJ12_getChars_118 (q := 120) rfl rfl ?_
          exact x_iret hC hr dJ12_getChars_120 (Nat.le_of_ble_eq_true rfl) (Nat.le_of_ble_eq_true rfl) ⟨rfl, by rw [(sb_all _ (by omega)).2.1, sP_1 (by omega), Nat.mod_eq_of_lt hz, show sD z = [48 + z] from if_pos hz]⟩
        · exact absurd rfl h106
      · exact absurd (show iI (-(z : Int)) ≥ -9 from (iI_le (a := -9) (b := -(z : Int)) ⟨by decide, by decide⟩ ⟨by omega, by omega⟩).mpr (by omega)) h88
    · exact absurd (show (-100 : Int32) < iI (-(z : Int)) from (iI_lt (a := -100) (b := -(z : Int)) ⟨by decide, by decide⟩ ⟨by omega, by omega⟩).mpr (by omega)) h25
  · exact absurd (nI_pos' (by omega)) h4

set_option maxHeartbeats 4000000 in
set_option maxRecDepth 100000 in
theorem m_J12_getChars_2 {l : Launch} {s0 : State} {D : va_G} (h0 : x0 l s0 D) (g : xG) {nv : xN} {v cap : Nat} {f : Nat → Int32} {A V B : Nat → Nat} (hS : KS0 s0 A V B) (hK : KG g A V B) (hd2 : Nat.blt nv.1 1000 = true) (hv : g nv = some (v, xAi .byte cap f)) (hcap : cap < 4096) {k : Nat} (hk : k ≤ cap) {z : Nat} (hz : 10 ≤ z ∧ z < 100) (hkz : 2 ≤ k) : xMet l s0 D yJ12_getChars cJ12_getChars 7 (some .int) (xr 0 0 0 0) [.int (nI z), .int (nI k), .ref v] g (fun r g1 => r = some (.int (nI (k - 2))) ∧ g1 = xu g nv (some (v, xAi .byte cap (sP f k (sD z))))) := by
  refine xMet.of h0 (by decide +kernel) rfl ?_
  intro zp ze zs zm za zb zf zc hC hr hnm
  refine x_iload_n hC dJ12_getChars_0 (q := 1) rfl rfl ?_
  refine x_istore hC dJ12_getChars_1 (q := 3) rfl rfl ?_
  refine x_iload_n hC dJ12_getChars_3 (q := 4) rfl rfl ?_
  refine x_if_ge hC dJ12_getChars_4 (q := 7) rfl (tgt := 11) rfl (fun h4 => ?_) (fun h4 => ?_)
  · skip
    refine x_iconst hC dJ12_getChars_11 (q := 12) rfl (v := (0)) (by decide) ?_
    refine x_istore hC dJ12_getChars_12 (q := 14) rfl rfl ?_
    refine x_iload hC dJ12_getChars_14 (q := 16) rfl rfl ?_
    refine x_if_ne hC dJ12_getChars_16 (q := 19) rfl (tgt := 22) rfl (fun h16 => ?_) (fun h16 => ?_)
    · exact absurd rfl h16
    refine x_iload_n hC dJ12_getChars_19 (q := 20) rfl rfl ?_
    refine x_ineg hC dJ12_getChars_20 (q := 21) rfl ?_
    refine x_istore_n hC dJ12_getChars_21 (q := 22) rfl rfl ?_
    rw [neg_nI]
    refine x_iload_n hC dJ12_getChars_22 (q := 23) rfl rfl ?_
    refine x_bipush hC dJ12_getChars_23 (q := 25) rfl (v := (-100)) (by decide) ?_
    refine x_icmp_gt hC dJ12_getChars_25 (q := 28) rfl (tgt := 72) rfl (fun h25 => ?_) (fun h25 => ?_)
    · skip
      refine x_aloadr_n hC dJ12_getChars_72 (q := 73) rfl rfl ?_
      refine x_iinc hC dJ12_getChars_73 (q := 76) rfl rfl (v := nI (k - 1)) (nI_dec (by omega)) ?_
      refine x_iload hC dJ12_getChars_76 (q := 78) rfl rfl ?_
      refine x_gets hC ((hS.2 6 (by decide)).1) (Or.inl q1234) dJ12_getChars_78 (q := 81) rfl ?_
      refine x_iload_n hC dJ12_getChars_81 (q := 82) rfl rfl ?_
      refine x_ineg hC dJ12_getChars_82 (q := 83) rfl ?_
      rw [neg_iI]
      refine x_bald hC dJ12_getChars_83 (q := 84) rfl (n := (1003, 6)) (hK.a 6 rfl) (j := z) rfl (by omega) (by decide) ?_
      refine x_bast hC dJ12_getChars_84 (q := 85) rfl (n := nv) hd2 hv (j := k - 1) rfl (by omega) (by omega) ?_
      refine x_iload_n hC dJ12_getChars_85 (q := 86) rfl rfl ?_
      refine x_bipush hC dJ12_getChars_86 (q := 88) rfl (v := (-9)) (by decide) ?_
      refine x_icmp_ge hC dJ12_getChars_88 (q := 91) rfl (tgt := 104) rfl (fun h88 => ?_) (fun h88 => ?_)
      · exact absurd ((iI_le (a := -9) (b := -(z : Int)) ⟨by decide, by decide⟩ ⟨by omega, by omega⟩).mp h88) (by omega)
      refine x_aloadr_n hC dJ12_getChars_91 (q := 92) rfl rfl ?_
      refine x_iinc hC dJ12_getChars_92 (q := 95) rfl rfl (v := nI (k - 2)) (nI_dec (k := k - 1) (by omega)) ?_
      refine x_iload hC dJ12_getChars_95 (q := 97) rfl rfl ?_
      refine x_gets hC ((hS.2 7 (by decide)).1) (Or.inl q1236) dJ12_getChars_97 (q := 100) rfl ?_
      refine x_iload_n hC dJ12_getChars_100 (q := 101) rfl rfl ?_
      refine x_ineg hC dJ12_getChars_101 (q := 102) rfl ?_
      rw [neg_iI]
      refine x_bald hC dJ12_getChars_102 (q := 103) rfl (n := (1003, 7)) ((hK.up hd2 _).a 7 rfl) (j := z) rfl (by omega) (by decide) ?_
      refine x_bast hC dJ12_getChars_103 (q := 104) rfl (n := nv) hd2 (xu_eq _ _ _) (j := k - 2) rfl (by omega) (by omega) ?_
      refine x_iload hC dJ12_getChars_104 (q := 106) rfl rfl ?_
      refine x_if_eq hC dJ12_getChars_106 (q := 109) rfl (tgt := 118) rfl (fun h106 => ?_) (fun h106 => ?_)
      · refine x_iload hC dJ12_getChars_118 (q := 120) rfl rfl ?_
        exact x_iret hC hr dJ12_getChars_120 (Nat.le_of_ble_eq_true rfl) (Nat.le_of_ble_eq_true rfl) ⟨rfl, by rw [(sb_all _ (by omega)).2.1, (sb_all _ (by omega)).2.1, xu_xu, sP_2 (by omega), show sD z = [48 + z / 10, 48 + z % 10] from (if_neg (by omega)).trans (if_pos (by omega))]⟩
      · exact absurd rfl h106
    · exact absurd (show (-100 : Int32) < iI (-(z : Int)) from (iI_lt (a := -100) (b := -(z : Int)) ⟨by decide, by decide⟩ ⟨by omega, by omega⟩).mpr (by omega)) h25
  · exact absurd (nI_pos' (by omega)) h4

set_option maxHeartbeats 4000000 in
set_option maxRecDepth 100000 in
theorem m_J12_getChars_3 {l : Launch} {s0 : State} {D : va_G} (h0 : x0 l s0 D) (g : xG) {nv : xN} {v cap : Nat} {f : Nat → Int32} {A V B : Nat → Nat} (hS : KS0 s0 A V B) (hK : KG g A V B) (hd2 : Nat.blt nv.1 1000 = true) (hv : g nv = some (v, xAi .byte cap f)) (hcap : cap < 4096) {k : Nat} (hk : k ≤ cap) {z : Nat} (hz : 100 ≤ z ∧ z < 1000) (hkz : 3 ≤ k) : xMet l s0 D yJ12_getChars cJ12_getChars 7 (some .int) (xr 0 0 0 0) [.int (nI z), .int (nI k), .ref v] g (fun r g1 => r = some (.int (nI (k - 3))) ∧ g1 = xu g nv (some (v, xAi .byte cap (sP f k (sD z))))) := by
  refine xMet.of h0 (by decide +kernel) rfl ?_
  intro zp ze zs zm za zb zf zc hC hr hnm
  refine x_iload_n hC dJ12_getChars_0 (q := 1) rfl rfl ?_
  refine x_istore hC dJ12_getChars_1 (q := 3) rfl rfl ?_
  skip
  refine x_iload_n hC dJ12_getChars_3 (q := 4) rfl rfl ?_
  refine x_if_ge hC dJ12_getChars_4 (q := 7) rfl (tgt := 11) rfl (fun h4 => ?_) (fun h4 => ?_)
  · skip
    refine x_iconst hC dJ12_getChars_11 (q := 12) rfl (v := (0)) (by decide) ?_
    refine x_istore hC dJ12_getChars_12 (q := 14) rfl rfl ?_
    refine x_iload hC dJ12_getChars_14 (q := 16) rfl rfl ?_
    refine x_if_ne hC dJ12_getChars_16 (q := 19) rfl (tgt := 22) rfl (fun h16 => ?_) (fun h16 => ?_)
    · exact absurd rfl h16
    refine x_iload_n hC dJ12_getChars_19 (q := 20) rfl rfl ?_
    refine x_ineg hC dJ12_getChars_20 (q := 21) rfl ?_
    refine x_istore_n hC dJ12_getChars_21 (q := 22) rfl rfl ?_
    rw [neg_nI]
    refine x_iload_n hC dJ12_getChars_22 (q := 23) rfl rfl ?_
    refine x_bipush hC dJ12_getChars_23 (q := 25) rfl (v := (-100)) (by decide) ?_
    refine x_icmp_gt hC dJ12_getChars_25 (q := 28) rfl (tgt := 72) rfl (fun h25 => ?_) (fun h25 => ?_)
    · exact absurd ((iI_lt (a := -100) (b := -(z : Int)) ⟨by decide, by decide⟩ ⟨by omega, by omega⟩).mp h25) (by omega)
    refine x_iload_n hC dJ12_getChars_28 (q := 29) rfl rfl ?_
    refine x_bipush hC dJ12_getChars_29 (q := 31) rfl (v := (100)) (by decide) ?_
    refine x_idiv hC dJ12_getChars_31 (q := 32) rfl (by decide) ?_
    rw [(dv100 z (by omega)).1]
    refine x_istore_n hC dJ12_getChars_32 (q := 33) rfl rfl ?_
    refine x_iload_n hC dJ12_getChars_33 (q := 34) rfl rfl ?_
    refine x_bipush hC dJ12_getChars_34 (q := 36) rfl (v := (100)) (by decide) ?_
    refine x_imul hC dJ12_getChars_36 (q := 37) rfl ?_
    refine x_iload_n hC dJ12_getChars_37 (q := 38) rfl rfl ?_
    refine x_isub hC dJ12_getChars_38 (q := 39) rfl ?_
    rw [(dv100 z (by omega)).2]
    refine x_istore hC dJ12_getChars_39 (q := 41) rfl rfl ?_
    refine x_iload_n hC dJ12_getChars_41 (q := 42) rfl rfl ?_
    refine x_istore_n hC dJ12_getChars_42 (q := 43) rfl rfl ?_
    refine x_aloadr_n hC dJ12_getChars_43 (q := 44) rfl rfl ?_
    refine x_iinc hC dJ12_getChars_44 (q := 47) rfl rfl (v := nI (k - 1)) (nI_dec (by omega)) ?_
    refine x_iload hC dJ12_getChars_47 (q := 49) rfl rfl ?_
    refine x_gets hC ((hS.2 6 (by decide)).1) (Or.inl q1234) dJ12_getChars_49 (q := 52) rfl ?_
    refine x_iload hC dJ12_getChars_52 (q := 54) rfl rfl ?_
    refine x_bald hC dJ12_getChars_54 (q := 55) rfl (n := (1003, 6)) (hK.a 6 rfl) (j := z % 100) rfl (by omega) (by decide) ?_
    refine x_bast hC dJ12_getChars_55 (q := 56) rfl (n := nv) hd2 hv (j := k - 1) rfl (by omega) (by omega) ?_
    refine x_aloadr_n hC dJ12_getChars_56 (q := 57) rfl rfl ?_
    refine x_iinc hC dJ12_getChars_57 (q := 60) rfl rfl (v := nI (k - 2)) (nI_dec (k := k - 1) (by omega)) ?_
    refine x_iload hC dJ12_getChars_60 (q := 62) rfl rfl ?_
    refine x_gets hC ((hS.2 7 (by decide)).1) (Or.inl q1236) dJ12_getChars_62 (q := 65) rfl ?_
    refine x_iload hC dJ12_getChars_65 (q := 67) rfl rfl ?_
    refine x_bald hC dJ12_getChars_67 (q := 68) rfl (n := (1003, 7)) ((hK.up hd2 _).a 7 rfl) (j := z % 100) rfl (by omega) (by decide) ?_
    refine x_bast hC dJ12_getChars_68 (q := 69) rfl (n := nv) hd2 (xu_eq _ _ _) (j := k - 2) rfl (by omega) (by omega) ?_
    refine x_goto hC dJ12_getChars_69 (tgt := 22) rfl ?_
    skip
    refine x_iload_n hC dJ12_getChars_22 (q := 23) rfl rfl ?_
    refine x_bipush hC dJ12_getChars_23 (q := 25) rfl (v := (-100)) (by decide) ?_
    refine x_icmp_gt hC dJ12_getChars_25 (q := 28) rfl (tgt := 72) rfl (fun h25 => ?_) (fun h25 => ?_)
    · skip
      refine x_aloadr_n hC dJ12_getChars_72 (q := 73) rfl rfl ?_
      refine x_iinc hC dJ12_getChars_73 (q := 76) rfl rfl (v := nI (k - 3)) (nI_dec (k := k - 2) (by omega)) ?_
      refine x_iload hC dJ12_getChars_76 (q := 78) rfl rfl ?_
      refine x_gets hC ((hS.2 6 (by decide)).1) (Or.inl q1234) dJ12_getChars_78 (q := 81) rfl ?_
      refine x_iload_n hC dJ12_getChars_81 (q := 82) rfl rfl ?_
      refine x_ineg hC dJ12_getChars_82 (q := 83) rfl ?_
      rw [neg_iI]
      refine x_bald hC dJ12_getChars_83 (q := 84) rfl (n := (1003, 6)) (((hK.up hd2 _).up hd2 _).a 6 rfl) (j := z / 100) rfl (by omega) (by decide) ?_
      refine x_bast hC dJ12_getChars_84 (q := 85) rfl (n := nv) hd2 (xu_eq _ _ _) (j := k - 3) rfl (by omega) (by omega) ?_
      refine x_iload_n hC dJ12_getChars_85 (q := 86) rfl rfl ?_
      refine x_bipush hC dJ12_getChars_86 (q := 88) rfl (v := (-9)) (by decide) ?_
      refine x_icmp_ge hC dJ12_getChars_88 (q := 91) rfl (tgt := 104) rfl (fun h88 => ?_) (fun h88 => ?_)
      · refine x_iload hC dJ12_getChars_104 (q := 106) rfl rfl ?_
        refine x_if_eq hC dJ12_getChars_106 (q := 109) rfl (tgt := 118) rfl (fun h106 => ?_) (fun h106 => ?_)
        · refine x_iload hC dJ12_getChars_118 (q := 120) rfl rfl ?_
          exact x_iret hC hr dJ12_getChars_120 (Nat.le_of_ble_eq_true rfl) (Nat.le_of_ble_eq_true rfl) ⟨rfl, by
            rw [(sb_all _ (by omega)).2.1, (sb_all _ (by omega)).2.1, (sb_all _ (by omega)).2.1, xu_xu, xu_xu, sP_3 (by omega), show sD z = [48 + z / 100, 48 + z / 10 % 10, 48 + z % 10] from (if_neg (by omega)).trans (if_neg (by omega)), show z / 100 % 10 = z / 100 by omega, show z % 100 / 10 = z / 10 % 10 by omega, show z % 100 % 10 = z % 10 by omega]⟩
        · exact absurd rfl h106
      · exact absurd (show iI (-((z / 100 : Nat) : Int)) ≥ -9 from (iI_le (a := -9) (b := -((z / 100 : Nat) : Int)) ⟨by decide, by decide⟩ ⟨by omega, by omega⟩).mpr (by omega)) h88
    · exact absurd (show (-100 : Int32) < iI (-((z / 100 : Nat) : Int)) from (iI_lt (a := -100) (b := -((z / 100 : Nat) : Int)) ⟨by decide, by decide⟩ ⟨by omega, by omega⟩).mpr (by omega)) h25
  · exact absurd (nI_pos' (by omega)) h4

theorem m_J12_getChars {l : Launch} {s0 : State} {D : va_G} (h0 : x0 l s0 D) (g : xG) {nv : xN} {v cap : Nat} {f : Nat → Int32} {A V B : Nat → Nat} (hS : KS0 s0 A V B) (hK : KG g A V B) (hd2 : Nat.blt nv.1 1000 = true) (hv : g nv = some (v, xAi .byte cap f)) (hcap : cap < 4096) {k : Nat} (hk : k ≤ cap) {z : Nat} (hz : z < 1000) (hkz : (sD z).length ≤ k) : xMet l s0 D yJ12_getChars cJ12_getChars 7 (some .int) (xr 0 0 0 0) [.int (nI z), .int (nI k), .ref v] g (fun r g1 => ∃ x, r = some (.int x) ∧ g1 = xu g nv (some (v, xAi .byte cap (sP f k (sD z))))) := by
  by_cases h1 : z < 10
  · exact (m_J12_getChars_1 h0 g hS hK hd2 hv hcap hk h1 (by rw [show sD z = [48 + z] from if_pos h1] at hkz; exact hkz)).sub fun r g1 q => ⟨g1, fun _ _ e => e, _, q.1, q.2⟩
  · by_cases h2 : z < 100
    · exact (m_J12_getChars_2 h0 g hS hK hd2 hv hcap hk ⟨by omega, h2⟩ (by rw [show sD z = [48 + z / 10, 48 + z % 10] from (if_neg (by omega)).trans (if_pos (by omega))] at hkz; exact hkz)).sub fun r g1 q => ⟨g1, fun _ _ e => e, _, q.1, q.2⟩
    · exact (m_J12_getChars_3 h0 g hS hK hd2 hv hcap hk ⟨by omega, hz⟩ (by rw [show sD z = [48 + z / 100, 48 + z / 10 % 10, 48 + z % 10] from (if_neg (by omega)).trans (if_neg (by omega))] at hkz; exact hkz)).sub fun r g1 q => ⟨g1, fun _ _ e => e, _, q.1, q.2⟩

set_option maxHeartbeats 4000000 in
set_option maxRecDepth 100000 in
theorem m_J4_append_3 {l : Launch} {s0 : State} {D : va_G} (h0 : x0 l s0 D) (g : xG) {n nv : xN} {a v cap : Nat} {ml : Int32} {f : Nat → Int32} {w : List Nat} {nt : xN} (hdt : Nat.blt nt.1 1000 = true) (hnt : g nt = none) (hd1 : Nat.blt n.1 1000 = true) (hd2 : Nat.blt nv.1 1000 = true) (hs : g n = some (a, xO 22 [.ref v, .int 0, .int ml, .int (nI w.length)])) (hv : g nv = some (v, xAi .byte cap f)) (hV : sV f cap w) {A V B : Nat → Nat} (hS : KS0 s0 A V B) (hK : KG g A V B) {z : Nat} (hz : z < 1000) (hl : w.length < 1800) : xMet l s0 D yJ4_append_3 cJ4_append_3 4 (some (.object "java/lang/AbstractStringBuilder")) (xr 5 1 4096 200) [.ref a, .int (nI z)] g (fun r g1 => ∃ v1 c1 f1, r = some (.ref a) ∧ sV f1 c1 (w ++ sD z) ∧ g1 = xu (xu g nv (some (v1, xAi .byte c1 f1))) n (some (a, xO 22 [.ref v1, .int 0, .int ml, .int (nI (w ++ sD z).length)]))) := by
  refine xMet.of h0 (by decide +kernel) rfl ?_
  intro zp ze zs zm za zb zf zc hC hr hnm
  have hne : n ≠ nv := fun q => by rw [q, hv] at hs; cases hs
  have h3 : (sD z).length ≤ 3 := by
    unfold sD
    split
    · exact (by decide : 1 ≤ 3)
    · split
      · exact (by decide : 2 ≤ 3)
      · exact (by decide : 3 ≤ 3)
  refine x_aloadr_n hC dJ4_append_3_0 (q := 1) rfl rfl ?_
  refine x_get hC xf_J4_79_22 dJ4_append_3_1 (q := 4) rfl (n := n) hs rfl ?_
  refine x_istore_n hC dJ4_append_3_4 (q := 5) rfl rfl ?_
  refine x_iload_n hC dJ4_append_3_5 (q := 6) rfl rfl ?_
  refine x_iload_n hC dJ4_append_3_6 (q := 7) rfl rfl ?_
  refine x_callS hC xv_J4_245 dJ4_append_3_7 (q := 10) rfl rfl (m_J12_stringSize h0 g hz) rfl (Nat.le_of_ble_eq_true rfl) ⟨(Nat.le_of_ble_eq_true rfl), (Nat.le_of_ble_eq_true rfl)⟩ ⟨(Nat.le_of_ble_eq_true rfl), (Nat.le_of_ble_eq_true rfl)⟩ (fun v g1 hp => ?_)
  obtain ⟨rfl, hg1⟩ := hp
  replace hg1 := hg1.symm
  subst hg1
  refine x_iadd hC dJ4_append_3_10 (q := 11) rfl ?_
  rw [nI_add]
  refine x_istore_n hC dJ4_append_3_11 (q := 12) rfl rfl ?_
  refine x_aloadr_n hC dJ4_append_3_12 (q := 13) rfl rfl ?_
  refine x_iload_n hC dJ4_append_3_13 (q := 14) rfl rfl ?_
  refine x_callVP hC xv_J4_100 dJ4_append_3_14 (q := 17) rfl rfl (m_J4_ensureCapacityInternal h0 g hdt hnt hd1 hd2 hs hv hV (M := w.length + (sD z).length) (by omega)) (nn := n) hs rfl rfl (Nat.le_of_ble_eq_true rfl) ⟨(Nat.le_of_ble_eq_true rfl), (Nat.le_of_ble_eq_true rfl)⟩ ⟨(Nat.le_of_ble_eq_true rfl), (Nat.le_of_ble_eq_true rfl)⟩ (fun v g1 hp => ?_)
  obtain ⟨v1, c1, f1, rfl, hV1, hM1, hg1⟩ := hp
  replace hg1 := hg1.symm
  subst hg1
  refine x_aloadr_n hC dJ4_append_3_17 (q := 18) rfl rfl ?_
  refine x_callU hC xv_J4_83 dJ4_append_3_18 (q := 21) rfl rfl (m_J4_isLatin1 h0 _ (n := n) (xu_eq _ _ _)) (nn := n) (xu_eq _ _ _) rfl rfl (Nat.le_of_ble_eq_true rfl) ⟨(Nat.le_of_ble_eq_true rfl), (Nat.le_of_ble_eq_true rfl)⟩ ⟨(Nat.le_of_ble_eq_true rfl), (Nat.le_of_ble_eq_true rfl)⟩ (fun v g1 hp => ?_)
  obtain ⟨rfl, hg1⟩ := hp
  replace hg1 := hg1.symm
  subst hg1
  refine x_if_eq hC dJ4_append_3_21 (q := 24) rfl (tgt := 37) rfl (fun h21 => ?_) (fun h21 => ?_)
  · exact absurd h21 (by decide)
  refine x_iload_n hC dJ4_append_3_24 (q := 25) rfl rfl ?_
  refine x_iload_n hC dJ4_append_3_25 (q := 26) rfl rfl ?_
  refine x_aloadr_n hC dJ4_append_3_26 (q := 27) rfl rfl ?_
  refine x_get hC xf_J4_15_22 dJ4_append_3_27 (q := 30) rfl (n := n) (xu_eq _ _ _) rfl ?_
  refine x_callS hC xv_J4_248 dJ4_append_3_30 (q := 33) rfl rfl (m_J12_getChars h0 _ (nv := nv) hS ((hK.up hd2 _).up hd1 _) hd2 (by rw [xu_ne hne.symm, xu_eq]) hV1.2.2.1 (k := w.length + (sD z).length) hM1 hz (by omega)) rfl (Nat.le_of_ble_eq_true rfl) ⟨(Nat.le_of_ble_eq_true rfl), (Nat.le_of_ble_eq_true rfl)⟩ ⟨(Nat.le_of_ble_eq_true rfl), (Nat.le_of_ble_eq_true rfl)⟩ (fun v g1 hp => ?_)
  obtain ⟨xr0, rfl, hg1⟩ := hp
  replace hg1 := hg1.symm
  subst hg1
  refine x_pop hC dJ4_append_3_33 (q := 34) rfl rfl ?_
  refine x_goto hC dJ4_append_3_34 (tgt := 48) rfl ?_
  refine x_aloadr_n hC dJ4_append_3_48 (q := 49) rfl rfl ?_
  refine x_iload_n hC dJ4_append_3_49 (q := 50) rfl rfl ?_
  refine x_put hC (n := n) xf_J4_79_22 xd_22 hd1 dJ4_append_3_50 (q := 53) rfl (by rw [xu_ne hne, xu_eq]) rfl rfl rfl ?_
  refine x_aloadr_n hC dJ4_append_3_53 (q := 54) rfl rfl ?_
  exact x_aret hC hr (Or.inl ⟨_, rfl⟩) (Or.inr ⟨_, rfl⟩) dJ4_append_3_54 (Nat.le_of_ble_eq_true rfl) (Nat.le_of_ble_eq_true rfl) ⟨v1, c1, _, rfl, sV_P hV1 (sA_D hz) hM1, by rw [xu4' hne, List.length_append]; rfl⟩

set_option maxHeartbeats 4000000 in
set_option maxRecDepth 100000 in
theorem m_J5_append_3 {l : Launch} {s0 : State} {D : va_G} (h0 : x0 l s0 D) (g : xG) {n nv : xN} {a v cap : Nat} {ml : Int32} {f : Nat → Int32} {w : List Nat} {nt : xN} (hdt : Nat.blt nt.1 1000 = true) (hnt : g nt = none) (hd1 : Nat.blt n.1 1000 = true) (hd2 : Nat.blt nv.1 1000 = true) (hs : g n = some (a, xO 22 [.ref v, .int 0, .int ml, .int (nI w.length)])) (hv : g nv = some (v, xAi .byte cap f)) (hV : sV f cap w) {A V B : Nat → Nat} (hS : KS0 s0 A V B) (hK : KG g A V B) {z : Nat} (hz : z < 1000) (hl : w.length < 1800) : xMet l s0 D yJ5_append_3 cJ5_append_3 2 (some (.object "java/lang/StringBuilder")) (xr 6 1 4096 240) [.ref a, .int (nI z)] g (fun r g1 => ∃ v1 c1 f1, r = some (.ref a) ∧ sV f1 c1 (w ++ sD z) ∧ g1 = xu (xu g nv (some (v1, xAi .byte c1 f1))) n (some (a, xO 22 [.ref v1, .int 0, .int ml, .int (nI (w ++ sD z).length)]))) := by
  refine xMet.of h0 (by decide +kernel) rfl ?_
  intro zp ze zs zm za zb zf zc hC hr hnm
  refine x_aloadr_n hC dJ5_append_3_0 (q := 1) rfl rfl ?_
  refine x_iload_n hC dJ5_append_3_1 (q := 2) rfl rfl ?_
  refine x_callSU hC xv_J5_53 dJ5_append_3_2 (q := 5) rfl rfl (m_J4_append_3 h0 g hdt hnt hd1 hd2 hs hv hV hS hK hz hl) (nn := n) hs rfl rfl (Nat.le_of_ble_eq_true rfl) ⟨(Nat.le_of_ble_eq_true rfl), (Nat.le_of_ble_eq_true rfl)⟩ ⟨(Nat.le_of_ble_eq_true rfl), (Nat.le_of_ble_eq_true rfl)⟩ (fun v g1 hp => ?_)
  obtain ⟨v1, c1, f1, rfl, hV1, hg1⟩ := hp
  replace hg1 := hg1.symm
  subst hg1
  refine x_pop hC dJ5_append_3_5 (q := 6) rfl rfl ?_
  refine x_aloadr_n hC dJ5_append_3_6 (q := 7) rfl rfl ?_
  exact x_aret hC hr (Or.inl ⟨_, rfl⟩) (Or.inr ⟨_, rfl⟩) dJ5_append_3_7 (Nat.le_of_ble_eq_true rfl) (Nat.le_of_ble_eq_true rfl) ⟨v1, c1, f1, rfl, hV1, rfl⟩
