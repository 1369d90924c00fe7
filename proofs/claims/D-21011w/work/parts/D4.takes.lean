/-! a child is taken: refused -/
theorem kKil_none {σ : KS} {c : Nat} (h : kO σ 0 c 0 = none) : kKil σ c = -1 := by unfold kKil; rw [h]

set_option maxHeartbeats 4000000 in
set_option maxRecDepth 100000 in
theorem m_X0_takes_n {l : Launch} {s0 : State} {D : va_G} (h0 : x0 l s0 D) (σ : KS) (gF : xG) {ad aa : Nat} {α : aA} {I : Nat → Int32} {V : Nat → Nat → Int32} {M : Nat → Nat → Nat → Int32} (hD : DW gF ad I V M) (hA : AH gF aa α) (hok : aOk α) (hv : KV σ) (hl : LT σ α) (hS : DS σ α I V M (-1) (-1)) (hI3 : I 3 = iI (kV σ 1 0 3)) {c : Nat} (hc1 : c < aI α 0) (hn : kO σ 0 c 0 = none) : xMet l s0 D yX0_takes cX0_takes 5 (some .boolean) (xr 23 25 340 1300) [.ref (kA σ 0 0), .ref aa, .ref ad, .int (nI c)] (kmix σ gF) (fun r g1 => r = some (.int 1) ∧ g1 = kmix (kRf σ) gF) := by
  obtain ⟨ra, rr, hd0, hd3, hd6, hdb, hdr, hdc, hdk, hdx, hdy⟩ := hD.km σ
  obtain ⟨ca, ga, rm, hat, hac, hag, har⟩ := hA.km σ
  have hb0 := hok.1
  have hb1 := hok.2.1
  refine xMet.of h0 (by decide +kernel) rfl ?_
  intro zp ze zs zm za zb zf zc hC hr hnm
  refine x_iload_n hC dX0_takes_0 (q := 1) rfl rfl ?_
  refine x_aloadr_n hC dX0_takes_1 (q := 2) rfl rfl ?_
  refine x_get hC xf_X0_60_0 dX0_takes_2 (q := 5) rfl (n := (101, 0)) hat rfl ?_
  refine x_icmp_ge hC dX0_takes_5 (q := 8) rfl (tgt := 21) rfl (fun h5 => ?_) (fun h5 => ?_)
  · exact absurd ((nI_leI (by omega) (by omega)).mp h5) (by omega)
  have hq2 := h5
  refine x_aloadr_n hC dX0_takes_8 (q := 9) rfl rfl ?_
  refine x_get hC xf_X0_120_16 dX0_takes_9 (q := 12) rfl (n := (120, 0)) hd0 rfl ?_
  refine x_iload_n hC dX0_takes_12 (q := 13) rfl rfl ?_
  refine x_iald hC dX0_takes_13 (q := 14) rfl (n := (126, 0)) (hd6 10 (by decide) (by decide)) (j := c) rfl (by omega) (by decide) ?_
  rw [(hS.2.2.2.2.2.1 c hc1 (nI_nm1 (by omega))).1, kKil_none hn]
  refine x_if_lt hC dX0_takes_14 (q := 17) rfl (tgt := 21) rfl (fun h14 => ?_) (fun h14 => ?_)
  · have h14x := h14
    refine x_iconst hC dX0_takes_21 (q := 22) rfl (v := (0)) (by decide) ?_
    refine x_istore hC dX0_takes_22 (q := 24) rfl rfl ?_
    refine x_aloadr_n hC dX0_takes_24 (q := 25) rfl rfl ?_
    refine x_iload_n hC dX0_takes_25 (q := 26) rfl rfl ?_
    refine x_callV hC xv_X0_178 dX0_takes_26 (q := 29) rfl rfl (m_X2_take_n h0 σ gF hv c (by rw [hl.1]; exact hc1) hn) (nn := (0, 0)) rfl rfl rfl (Nat.le_of_ble_eq_true rfl) ⟨(by (try dsimp only); omega), (by (try dsimp only); omega)⟩ ⟨(by (try dsimp only); omega), (by (try dsimp only); omega)⟩ (fun v g1 hp => ?_)
    obtain ⟨rfl, hg1⟩ := hp
    replace hg1 : g1 = kmix (kRf σ) gF := hg1
    subst hg1
    have hw2 := kRf_W hv.1
    have hl2 : LT (kRf σ) α := hl.eq rfl rfl (fun _ => rfl) (fun _ => rfl) (fun _ => rfl)
    refine x_iload hC dX0_takes_29 (q := 31) rfl rfl ?_
    refine x_icmp_ne hC dX0_takes_31 (q := 34) rfl (tgt := 86) rfl (fun h31 => ?_) (fun h31 => ?_)
    · exact absurd rfl h31
    refine x_iload hC dX0_takes_34 (q := 36) rfl rfl ?_
    refine x_if_eq hC dX0_takes_36 (q := 39) rfl (tgt := 69) rfl (fun h36 => ?_) (fun h36 => ?_)
    · refine x_aloadr_n hC dX0_takes_69 (q := 70) rfl rfl ?_
      refine x_aloadr_n hC dX0_takes_70 (q := 71) rfl rfl ?_
      refine x_aloadr_n hC dX0_takes_71 (q := 72) rfl rfl ?_
      refine x_iload hC dX0_takes_72 (q := 74) rfl rfl ?_
      refine x_iload_n hC dX0_takes_74 (q := 75) rfl rfl ?_
      refine x_iconst hC dX0_takes_75 (q := 76) rfl (v := (-1)) (by decide) ?_
      refine x_callS hC xv_X0_174 dX0_takes_76 (q := 79) rfl rfl (m_X0_isBehind_f h0 _ gF hD hA hok hw2 hl2 _ _ (kRf_DS hok hS) (by rw [hI3, kRf_3, ← iI_add]; rfl)) rfl (Nat.le_of_ble_eq_true rfl) ⟨(by (try dsimp only); omega), (by (try dsimp only); omega)⟩ ⟨(by (try dsimp only); omega), (by (try dsimp only); omega)⟩ (fun v g1 hp => ?_)
      obtain ⟨rfl, hg1⟩ := hp
      replace hg1 := hg1.symm
      subst hg1
      refine x_if_eq hC dX0_takes_79 (q := 82) rfl (tgt := 86) rfl (fun h79 => ?_) (fun h79 => ?_)
      · exact absurd h79 (by decide)
      refine x_iconst hC dX0_takes_82 (q := 83) rfl (v := (1)) (by decide) ?_
      refine x_goto hC dX0_takes_83 (tgt := 87) rfl ?_
      exact x_zret hC hr rfl dX0_takes_87 (by (try dsimp only); omega) (by (try dsimp only); omega) ⟨rfl, rfl⟩
    · exact absurd rfl h36
  · exact absurd (show (-1 : Int32) < 0 by decide) h14

set_option maxHeartbeats 4000000 in
set_option maxRecDepth 100000 in
theorem m_X0_takes_o {l : Launch} {s0 : State} {D : va_G} (h0 : x0 l s0 D) (σ : KS) (gF : xG) {ad aa : Nat} {α : aA} {I : Nat → Int32} {V : Nat → Nat → Int32} {M : Nat → Nat → Nat → Int32} (hD : DW gF ad I V M) (hA : AH gF aa α) (hok : aOk α) (hv : KV σ) (hl : LT σ α) (hS : DS σ α I V M (-1) (-1)) (hI3 : I 3 = iI (kV σ 1 0 3)) {c : Nat} (hc1 : aI α 0 ≤ c) (hcb : c < 100000) : xMet l s0 D yX0_takes cX0_takes 5 (some .boolean) (xr 23 25 340 1300) [.ref (kA σ 0 0), .ref aa, .ref ad, .int (nI c)] (kmix σ gF) (fun r g1 => r = some (.int 1) ∧ g1 = kmix (kRf σ) gF) := by
  obtain ⟨ra, rr, hd0, hd3, hd6, hdb, hdr, hdc, hdk, hdx, hdy⟩ := hD.km σ
  obtain ⟨ca, ga, rm, hat, hac, hag, har⟩ := hA.km σ
  have hb0 := hok.1
  have hb1 := hok.2.1
  refine xMet.of h0 (by decide +kernel) rfl ?_
  intro zp ze zs zm za zb zf zc hC hr hnm
  refine x_iload_n hC dX0_takes_0 (q := 1) rfl rfl ?_
  refine x_aloadr_n hC dX0_takes_1 (q := 2) rfl rfl ?_
  refine x_get hC xf_X0_60_0 dX0_takes_2 (q := 5) rfl (n := (101, 0)) hat rfl ?_
  refine x_icmp_ge hC dX0_takes_5 (q := 8) rfl (tgt := 21) rfl (fun h5 => ?_) (fun h5 => ?_)
  · have hq2 := h5
    refine x_iconst hC dX0_takes_21 (q := 22) rfl (v := (0)) (by decide) ?_
    refine x_istore hC dX0_takes_22 (q := 24) rfl rfl ?_
    refine x_aloadr_n hC dX0_takes_24 (q := 25) rfl rfl ?_
    refine x_iload_n hC dX0_takes_25 (q := 26) rfl rfl ?_
    refine x_callV hC xv_X0_178 dX0_takes_26 (q := 29) rfl rfl (m_X2_take_nochild h0 σ gF hv (nI c) (Or.inr (by rw [nI_toInt (by omega), hl.1]; omega))) (nn := (0, 0)) rfl rfl rfl (Nat.le_of_ble_eq_true rfl) ⟨(by (try dsimp only); omega), (by (try dsimp only); omega)⟩ ⟨(by (try dsimp only); omega), (by (try dsimp only); omega)⟩ (fun v g1 hp => ?_)
    obtain ⟨rfl, hg1⟩ := hp
    replace hg1 : g1 = kmix (kRf σ) gF := hg1
    subst hg1
    have hw2 := kRf_W hv.1
    have hl2 : LT (kRf σ) α := hl.eq rfl rfl (fun _ => rfl) (fun _ => rfl) (fun _ => rfl)
    refine x_iload hC dX0_takes_29 (q := 31) rfl rfl ?_
    refine x_icmp_ne hC dX0_takes_31 (q := 34) rfl (tgt := 86) rfl (fun h31 => ?_) (fun h31 => ?_)
    · exact absurd rfl h31
    refine x_iload hC dX0_takes_34 (q := 36) rfl rfl ?_
    refine x_if_eq hC dX0_takes_36 (q := 39) rfl (tgt := 69) rfl (fun h36 => ?_) (fun h36 => ?_)
    · refine x_aloadr_n hC dX0_takes_69 (q := 70) rfl rfl ?_
      refine x_aloadr_n hC dX0_takes_70 (q := 71) rfl rfl ?_
      refine x_aloadr_n hC dX0_takes_71 (q := 72) rfl rfl ?_
      refine x_iload hC dX0_takes_72 (q := 74) rfl rfl ?_
      refine x_iload_n hC dX0_takes_74 (q := 75) rfl rfl ?_
      refine x_iconst hC dX0_takes_75 (q := 76) rfl (v := (-1)) (by decide) ?_
      refine x_callS hC xv_X0_174 dX0_takes_76 (q := 79) rfl rfl (m_X0_isBehind_f h0 _ gF hD hA hok hw2 hl2 _ _ (kRf_DS hok hS) (by rw [hI3, kRf_3, ← iI_add]; rfl)) rfl (Nat.le_of_ble_eq_true rfl) ⟨(by (try dsimp only); omega), (by (try dsimp only); omega)⟩ ⟨(by (try dsimp only); omega), (by (try dsimp only); omega)⟩ (fun v g1 hp => ?_)
      obtain ⟨rfl, hg1⟩ := hp
      replace hg1 := hg1.symm
      subst hg1
      refine x_if_eq hC dX0_takes_79 (q := 82) rfl (tgt := 86) rfl (fun h79 => ?_) (fun h79 => ?_)
      · exact absurd h79 (by decide)
      refine x_iconst hC dX0_takes_82 (q := 83) rfl (v := (1)) (by decide) ?_
      refine x_goto hC dX0_takes_83 (tgt := 87) rfl ?_
      exact x_zret hC hr rfl dX0_takes_87 (by (try dsimp only); omega) (by (try dsimp only); omega) ⟨rfl, rfl⟩
    · exact absurd rfl h36
  · exact absurd (nI_le hc1 (by omega)) h5
