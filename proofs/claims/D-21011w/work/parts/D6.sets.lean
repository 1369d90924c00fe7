/-! a child is set: refused -/

set_option maxHeartbeats 4000000 in
set_option maxRecDepth 100000 in
theorem m_X0_sets_c {l : Launch} {s0 : State} {D : va_G} (h0 : x0 l s0 D) (σ : KS) (gF : xG) {ad aa : Nat} {α : aA} {I : Nat → Int32} {V : Nat → Nat → Int32} {M : Nat → Nat → Nat → Int32} (hD : DW gF ad I V M) (hA : AH gF aa α) (hok : aOk α) (hv : KV σ) (hl : LT σ α) (hS : DS σ α I V M (-1) (-1)) (hI3 : I 3 = iI (kV σ 1 0 3)) {c q : Nat} (hc1 : aI α 0 ≤ c) (hcb : c < 100000) (y : Int32) : xMet l s0 D yX0_sets cX0_sets 7 (some .boolean) (xr 23 25 340 1300) [.ref (kA σ 0 0), .ref aa, .ref ad, .int (nI c), .int (nI q), .int y] (kmix σ gF) (fun r g1 => r = some (.int 1) ∧ g1 = kmix (kRf σ) gF) := by
  obtain ⟨ra, rr, hd0, hd3, hd6, hdb, hdr, hdc, hdk, hdx, hdy⟩ := hD.km σ
  obtain ⟨ca, ga, rm, hat, hac, hag, har⟩ := hA.km σ
  have hb0 := hok.1
  have hb1 := hok.2.1
  refine xMet.of h0 (by decide +kernel) rfl ?_
  intro zp ze zs zm za zb zf zc hC hr hnm
  refine x_iload_n hC dX0_sets_0 (q := 1) rfl rfl ?_
  refine x_aloadr_n hC dX0_sets_1 (q := 2) rfl rfl ?_
  refine x_get hC xf_X0_60_0 dX0_sets_2 (q := 5) rfl (n := (101, 0)) hat rfl ?_
  refine x_icmp_ge hC dX0_sets_5 (q := 8) rfl (tgt := 54) rfl (fun h5 => ?_) (fun h5 => ?_)
  · have hx5 := h5
    refine x_iconst hC dX0_sets_54 (q := 55) rfl (v := (0)) (by decide) ?_
    refine x_istore hC dX0_sets_55 (q := 57) rfl rfl ?_
    refine x_aloadr_n hC dX0_sets_57 (q := 58) rfl rfl ?_
    refine x_iload_n hC dX0_sets_58 (q := 59) rfl rfl ?_
    refine x_iload hC dX0_sets_59 (q := 61) rfl rfl ?_
    refine x_iload hC dX0_sets_61 (q := 63) rfl rfl ?_
    refine x_callV hC xv_X0_170 dX0_sets_63 (q := 66) rfl rfl (m_X2_set_nochild h0 σ gF hv (nI c) (nI q) y (Or.inr (by rw [nI_toInt (by omega), hl.1]; omega))) (nn := (0, 0)) rfl rfl rfl (Nat.le_of_ble_eq_true rfl) ⟨(by (try dsimp only); omega), (by (try dsimp only); omega)⟩ ⟨(by (try dsimp only); omega), (by (try dsimp only); omega)⟩ (fun v g1 hp => ?_)
    obtain ⟨rfl, hg1⟩ := hp
    replace hg1 : g1 = kmix (kRf σ) gF := hg1
    subst hg1
    have hw2 := kRf_W hv.1
    have hl2 : LT (kRf σ) α := hl.eq rfl rfl (fun _ => rfl) (fun _ => rfl) (fun _ => rfl)
    refine x_iload hC dX0_sets_66 (q := 68) rfl rfl ?_
    refine x_icmp_ne hC dX0_sets_68 (q := 71) rfl (tgt := 127) rfl (fun h68 => ?_) (fun h68 => ?_)
    · exact absurd rfl h68
    refine x_iload hC dX0_sets_71 (q := 73) rfl rfl ?_
    refine x_if_eq hC dX0_sets_73 (q := 76) rfl (tgt := 110) rfl (fun h73 => ?_) (fun h73 => ?_)
    · refine x_aloadr_n hC dX0_sets_110 (q := 111) rfl rfl ?_
      refine x_aloadr_n hC dX0_sets_111 (q := 112) rfl rfl ?_
      refine x_aloadr_n hC dX0_sets_112 (q := 113) rfl rfl ?_
      refine x_iload hC dX0_sets_113 (q := 115) rfl rfl ?_
      refine x_iload_n hC dX0_sets_115 (q := 116) rfl rfl ?_
      refine x_iconst hC dX0_sets_116 (q := 117) rfl (v := (-1)) (by decide) ?_
      refine x_callS hC xv_X0_174 dX0_sets_117 (q := 120) rfl rfl (m_X0_isBehind_f h0 _ gF hD hA hok hw2 hl2 _ _ (kRf_DS hok hS) (by rw [hI3, kRf_3, ← iI_add]; rfl)) rfl (Nat.le_of_ble_eq_true rfl) ⟨(by (try dsimp only); omega), (by (try dsimp only); omega)⟩ ⟨(by (try dsimp only); omega), (by (try dsimp only); omega)⟩ (fun v g1 hp => ?_)
      obtain ⟨rfl, hg1⟩ := hp
      replace hg1 := hg1.symm
      subst hg1
      refine x_if_eq hC dX0_sets_120 (q := 123) rfl (tgt := 127) rfl (fun h120 => ?_) (fun h120 => ?_)
      · exact absurd h120 (by decide)
      refine x_iconst hC dX0_sets_123 (q := 124) rfl (v := (1)) (by decide) ?_
      refine x_goto hC dX0_sets_124 (tgt := 128) rfl ?_
      exact x_zret hC hr rfl dX0_sets_128 (by (try dsimp only); omega) (by (try dsimp only); omega) ⟨rfl, rfl⟩
    · exact absurd rfl h73
  · exact absurd (nI_le hc1 (by omega)) h5

set_option maxHeartbeats 4000000 in
set_option maxRecDepth 100000 in
theorem m_X0_sets_q {l : Launch} {s0 : State} {D : va_G} (h0 : x0 l s0 D) (σ : KS) (gF : xG) {ad aa : Nat} {α : aA} {I : Nat → Int32} {V : Nat → Nat → Int32} {M : Nat → Nat → Nat → Int32} (hD : DW gF ad I V M) (hA : AH gF aa α) (hok : aOk α) (hv : KV σ) (hl : LT σ α) (hS : DS σ α I V M (-1) (-1)) (hI3 : I 3 = iI (kV σ 1 0 3)) {c q : Nat} (hc1 : c < aI α 0) (hq1 : aI α 1 ≤ q) (hqb : q < 100000) (y : Int32) : xMet l s0 D yX0_sets cX0_sets 7 (some .boolean) (xr 23 25 340 1300) [.ref (kA σ 0 0), .ref aa, .ref ad, .int (nI c), .int (nI q), .int y] (kmix σ gF) (fun r g1 => r = some (.int 1) ∧ g1 = kmix (kRf σ) gF) := by
  obtain ⟨ra, rr, hd0, hd3, hd6, hdb, hdr, hdc, hdk, hdx, hdy⟩ := hD.km σ
  obtain ⟨ca, ga, rm, hat, hac, hag, har⟩ := hA.km σ
  have hb0 := hok.1
  have hb1 := hok.2.1
  refine xMet.of h0 (by decide +kernel) rfl ?_
  intro zp ze zs zm za zb zf zc hC hr hnm
  refine x_iload_n hC dX0_sets_0 (q := 1) rfl rfl ?_
  refine x_aloadr_n hC dX0_sets_1 (q := 2) rfl rfl ?_
  refine x_get hC xf_X0_60_0 dX0_sets_2 (q := 5) rfl (n := (101, 0)) hat rfl ?_
  refine x_icmp_ge hC dX0_sets_5 (q := 8) rfl (tgt := 54) rfl (fun h5 => ?_) (fun h5 => ?_)
  · exact absurd ((nI_leI (by omega) (by omega)).mp h5) (by omega)
  have hx5 := h5
  refine x_iload hC dX0_sets_8 (q := 10) rfl rfl ?_
  refine x_aloadr_n hC dX0_sets_10 (q := 11) rfl rfl ?_
  refine x_get hC xf_X0_54_0 dX0_sets_11 (q := 14) rfl (n := (101, 0)) hat rfl ?_
  refine x_icmp_ge hC dX0_sets_14 (q := 17) rfl (tgt := 54) rfl (fun h14 => ?_) (fun h14 => ?_)
  · have hx14 := h14
    refine x_iconst hC dX0_sets_54 (q := 55) rfl (v := (0)) (by decide) ?_
    refine x_istore hC dX0_sets_55 (q := 57) rfl rfl ?_
    refine x_aloadr_n hC dX0_sets_57 (q := 58) rfl rfl ?_
    refine x_iload_n hC dX0_sets_58 (q := 59) rfl rfl ?_
    refine x_iload hC dX0_sets_59 (q := 61) rfl rfl ?_
    refine x_iload hC dX0_sets_61 (q := 63) rfl rfl ?_
    refine x_callV hC xv_X0_170 dX0_sets_63 (q := 66) rfl rfl (m_X2_set_nokiln h0 σ gF hv c (by rw [hl.1]; exact hc1) (nI q) y (Or.inr (by rw [nI_toInt (by omega), hl.2.1]; omega))) (nn := (0, 0)) rfl rfl rfl (Nat.le_of_ble_eq_true rfl) ⟨(by (try dsimp only); omega), (by (try dsimp only); omega)⟩ ⟨(by (try dsimp only); omega), (by (try dsimp only); omega)⟩ (fun v g1 hp => ?_)
    obtain ⟨rfl, hg1⟩ := hp
    replace hg1 : g1 = kmix (kRf σ) gF := hg1
    subst hg1
    have hw2 := kRf_W hv.1
    have hl2 : LT (kRf σ) α := hl.eq rfl rfl (fun _ => rfl) (fun _ => rfl) (fun _ => rfl)
    refine x_iload hC dX0_sets_66 (q := 68) rfl rfl ?_
    refine x_icmp_ne hC dX0_sets_68 (q := 71) rfl (tgt := 127) rfl (fun h68 => ?_) (fun h68 => ?_)
    · exact absurd rfl h68
    refine x_iload hC dX0_sets_71 (q := 73) rfl rfl ?_
    refine x_if_eq hC dX0_sets_73 (q := 76) rfl (tgt := 110) rfl (fun h73 => ?_) (fun h73 => ?_)
    · refine x_aloadr_n hC dX0_sets_110 (q := 111) rfl rfl ?_
      refine x_aloadr_n hC dX0_sets_111 (q := 112) rfl rfl ?_
      refine x_aloadr_n hC dX0_sets_112 (q := 113) rfl rfl ?_
      refine x_iload hC dX0_sets_113 (q := 115) rfl rfl ?_
      refine x_iload_n hC dX0_sets_115 (q := 116) rfl rfl ?_
      refine x_iconst hC dX0_sets_116 (q := 117) rfl (v := (-1)) (by decide) ?_
      refine x_callS hC xv_X0_174 dX0_sets_117 (q := 120) rfl rfl (m_X0_isBehind_f h0 _ gF hD hA hok hw2 hl2 _ _ (kRf_DS hok hS) (by rw [hI3, kRf_3, ← iI_add]; rfl)) rfl (Nat.le_of_ble_eq_true rfl) ⟨(by (try dsimp only); omega), (by (try dsimp only); omega)⟩ ⟨(by (try dsimp only); omega), (by (try dsimp only); omega)⟩ (fun v g1 hp => ?_)
      obtain ⟨rfl, hg1⟩ := hp
      replace hg1 := hg1.symm
      subst hg1
      refine x_if_eq hC dX0_sets_120 (q := 123) rfl (tgt := 127) rfl (fun h120 => ?_) (fun h120 => ?_)
      · exact absurd h120 (by decide)
      refine x_iconst hC dX0_sets_123 (q := 124) rfl (v := (1)) (by decide) ?_
      refine x_goto hC dX0_sets_124 (tgt := 128) rfl ?_
      exact x_zret hC hr rfl dX0_sets_128 (by (try dsimp only); omega) (by (try dsimp only); omega) ⟨rfl, rfl⟩
    · exact absurd rfl h73
  · exact absurd (nI_le hq1 (by omega)) h14

set_option maxHeartbeats 4000000 in
set_option maxRecDepth 100000 in
theorem m_X0_sets_f {l : Launch} {s0 : State} {D : va_G} (h0 : x0 l s0 D) (σ : KS) (gF : xG) {ad aa : Nat} {α : aA} {I : Nat → Int32} {V : Nat → Nat → Int32} {M : Nat → Nat → Nat → Int32} (hD : DW gF ad I V M) (hA : AH gF aa α) (hok : aOk α) (hv : KV σ) (hl : LT σ α) (hS : DS σ α I V M (-1) (-1)) (hI3 : I 3 = iI (kV σ 1 0 3)) {c q : Nat} (hc1 : c < aI α 0) (hq1 : q < aI α 1) (y : Int32) (hraw : kI σ 34 c ≠ -1) (hb : iB (kI σ 34 c)) : xMet l s0 D yX0_sets cX0_sets 7 (some .boolean) (xr 23 25 340 1300) [.ref (kA σ 0 0), .ref aa, .ref ad, .int (nI c), .int (nI q), .int y] (kmix σ gF) (fun r g1 => r = some (.int 1) ∧ g1 = kmix (kRf σ) gF) := by
  obtain ⟨ra, rr, hd0, hd3, hd6, hdb, hdr, hdc, hdk, hdx, hdy⟩ := hD.km σ
  obtain ⟨ca, ga, rm, hat, hac, hag, har⟩ := hA.km σ
  have hb0 := hok.1
  have hb1 := hok.2.1
  refine xMet.of h0 (by decide +kernel) rfl ?_
  intro zp ze zs zm za zb zf zc hC hr hnm
  refine x_iload_n hC dX0_sets_0 (q := 1) rfl rfl ?_
  refine x_aloadr_n hC dX0_sets_1 (q := 2) rfl rfl ?_
  refine x_get hC xf_X0_60_0 dX0_sets_2 (q := 5) rfl (n := (101, 0)) hat rfl ?_
  refine x_icmp_ge hC dX0_sets_5 (q := 8) rfl (tgt := 54) rfl (fun h5 => ?_) (fun h5 => ?_)
  · exact absurd ((nI_leI (by omega) (by omega)).mp h5) (by omega)
  have hx5 := h5
  refine x_iload hC dX0_sets_8 (q := 10) rfl rfl ?_
  refine x_aloadr_n hC dX0_sets_10 (q := 11) rfl rfl ?_
  refine x_get hC xf_X0_54_0 dX0_sets_11 (q := 14) rfl (n := (101, 0)) hat rfl ?_
  refine x_icmp_ge hC dX0_sets_14 (q := 17) rfl (tgt := 54) rfl (fun h14 => ?_) (fun h14 => ?_)
  · exact absurd ((nI_leI (by omega) (by omega)).mp h14) (by omega)
  have hx14 := h14
  refine x_aloadr_n hC dX0_sets_17 (q := 18) rfl rfl ?_
  refine x_get hC xf_X0_163_16 dX0_sets_18 (q := 21) rfl (n := (120, 0)) hd0 rfl ?_
  refine x_iload_n hC dX0_sets_21 (q := 22) rfl rfl ?_
  refine x_zald hC dX0_sets_22 (q := 23) rfl (n := (131, 0)) hdb (j := c) rfl (by omega) (by decide) ?_
  rw [(hS.2.2.2.2.2.1 c hc1 (nI_nm1 (by omega))).2.2.2.1, if_neg (show ¬ iI (kI σ 34 c) = -1 from fun w => hraw ((iI_eq (b := -1) hb ⟨by decide, by decide⟩).mp w))]
  refine x_if_eq hC dX0_sets_23 (q := 26) rfl (tgt := 54) rfl (fun h23 => ?_) (fun h23 => ?_)
  · have hx23 := h23
    refine x_iconst hC dX0_sets_54 (q := 55) rfl (v := (0)) (by decide) ?_
    refine x_istore hC dX0_sets_55 (q := 57) rfl rfl ?_
    refine x_aloadr_n hC dX0_sets_57 (q := 58) rfl rfl ?_
    refine x_iload_n hC dX0_sets_58 (q := 59) rfl rfl ?_
    refine x_iload hC dX0_sets_59 (q := 61) rfl rfl ?_
    refine x_iload hC dX0_sets_61 (q := 63) rfl rfl ?_
    refine x_callV hC xv_X0_170 dX0_sets_63 (q := 66) rfl rfl (m_X2_set_fired h0 σ gF hv.1 c (by rw [hl.1]; exact hc1) q (by rw [hl.2.1]; exact hq1) y hraw hb) (nn := (0, 0)) rfl rfl rfl (Nat.le_of_ble_eq_true rfl) ⟨(by (try dsimp only); omega), (by (try dsimp only); omega)⟩ ⟨(by (try dsimp only); omega), (by (try dsimp only); omega)⟩ (fun v g1 hp => ?_)
    obtain ⟨rfl, hg1⟩ := hp
    replace hg1 : g1 = kmix (kRf σ) gF := hg1
    subst hg1
    have hw2 := kRf_W hv.1
    have hl2 : LT (kRf σ) α := hl.eq rfl rfl (fun _ => rfl) (fun _ => rfl) (fun _ => rfl)
    refine x_iload hC dX0_sets_66 (q := 68) rfl rfl ?_
    refine x_icmp_ne hC dX0_sets_68 (q := 71) rfl (tgt := 127) rfl (fun h68 => ?_) (fun h68 => ?_)
    · exact absurd rfl h68
    refine x_iload hC dX0_sets_71 (q := 73) rfl rfl ?_
    refine x_if_eq hC dX0_sets_73 (q := 76) rfl (tgt := 110) rfl (fun h73 => ?_) (fun h73 => ?_)
    · refine x_aloadr_n hC dX0_sets_110 (q := 111) rfl rfl ?_
      refine x_aloadr_n hC dX0_sets_111 (q := 112) rfl rfl ?_
      refine x_aloadr_n hC dX0_sets_112 (q := 113) rfl rfl ?_
      refine x_iload hC dX0_sets_113 (q := 115) rfl rfl ?_
      refine x_iload_n hC dX0_sets_115 (q := 116) rfl rfl ?_
      refine x_iconst hC dX0_sets_116 (q := 117) rfl (v := (-1)) (by decide) ?_
      refine x_callS hC xv_X0_174 dX0_sets_117 (q := 120) rfl rfl (m_X0_isBehind_f h0 _ gF hD hA hok hw2 hl2 _ _ (kRf_DS hok hS) (by rw [hI3, kRf_3, ← iI_add]; rfl)) rfl (Nat.le_of_ble_eq_true rfl) ⟨(by (try dsimp only); omega), (by (try dsimp only); omega)⟩ ⟨(by (try dsimp only); omega), (by (try dsimp only); omega)⟩ (fun v g1 hp => ?_)
      obtain ⟨rfl, hg1⟩ := hp
      replace hg1 := hg1.symm
      subst hg1
      refine x_if_eq hC dX0_sets_120 (q := 123) rfl (tgt := 127) rfl (fun h120 => ?_) (fun h120 => ?_)
      · exact absurd h120 (by decide)
      refine x_iconst hC dX0_sets_123 (q := 124) rfl (v := (1)) (by decide) ?_
      refine x_goto hC dX0_sets_124 (tgt := 128) rfl ?_
      exact x_zret hC hr rfl dX0_sets_128 (by (try dsimp only); omega) (by (try dsimp only); omega) ⟨rfl, rfl⟩
    · exact absurd rfl h73
  · exact absurd rfl h23

set_option maxHeartbeats 4000000 in
set_option maxRecDepth 100000 in
theorem m_X0_sets_far {l : Launch} {s0 : State} {D : va_G} (h0 : x0 l s0 D) (σ : KS) (gF : xG) {ad aa : Nat} {α : aA} {I : Nat → Int32} {V : Nat → Nat → Int32} {M : Nat → Nat → Nat → Int32} (hD : DW gF ad I V M) (hA : AH gF aa α) (hok : aOk α) (hv : KV σ) (hl : LT σ α) (hS : DS σ α I V M (-1) (-1)) (hI3 : I 3 = iI (kV σ 1 0 3)) {c q pl : Nat} (hc1 : c < aI α 0) (hq1 : q < aI α 1) (hraw : kI σ 34 c = -1) (hpl : kA σ 25 q ≤ pl) (hpb : pl < 100000) : xMet l s0 D yX0_sets cX0_sets 7 (some .boolean) (xr 23 25 340 1300) [.ref (kA σ 0 0), .ref aa, .ref ad, .int (nI c), .int (nI q), .int (nI pl)] (kmix σ gF) (fun r g1 => r = some (.int 1) ∧ g1 = kmix (kRf σ) gF) := by
  obtain ⟨ra, rr, hd0, hd3, hd6, hdb, hdr, hdc, hdk, hdx, hdy⟩ := hD.km σ
  obtain ⟨ca, ga, rm, hat, hac, hag, har⟩ := hA.km σ
  have hb0 := hok.1
  have hb1 := hok.2.1
  refine xMet.of h0 (by decide +kernel) rfl ?_
  intro zp ze zs zm za zb zf zc hC hr hnm
  refine x_iload_n hC dX0_sets_0 (q := 1) rfl rfl ?_
  refine x_aloadr_n hC dX0_sets_1 (q := 2) rfl rfl ?_
  refine x_get hC xf_X0_60_0 dX0_sets_2 (q := 5) rfl (n := (101, 0)) hat rfl ?_
  refine x_icmp_ge hC dX0_sets_5 (q := 8) rfl (tgt := 54) rfl (fun h5 => ?_) (fun h5 => ?_)
  · exact absurd ((nI_leI (by omega) (by omega)).mp h5) (by omega)
  have hx5 := h5
  refine x_iload hC dX0_sets_8 (q := 10) rfl rfl ?_
  refine x_aloadr_n hC dX0_sets_10 (q := 11) rfl rfl ?_
  refine x_get hC xf_X0_54_0 dX0_sets_11 (q := 14) rfl (n := (101, 0)) hat rfl ?_
  refine x_icmp_ge hC dX0_sets_14 (q := 17) rfl (tgt := 54) rfl (fun h14 => ?_) (fun h14 => ?_)
  · exact absurd ((nI_leI (by omega) (by omega)).mp h14) (by omega)
  have hx14 := h14
  refine x_aloadr_n hC dX0_sets_17 (q := 18) rfl rfl ?_
  refine x_get hC xf_X0_163_16 dX0_sets_18 (q := 21) rfl (n := (120, 0)) hd0 rfl ?_
  refine x_iload_n hC dX0_sets_21 (q := 22) rfl rfl ?_
  refine x_zald hC dX0_sets_22 (q := 23) rfl (n := (131, 0)) hdb (j := c) rfl (by omega) (by decide) ?_
  rw [(hS.2.2.2.2.2.1 c hc1 (nI_nm1 (by omega))).2.2.2.1, if_pos (show iI (kI σ 34 c) = -1 by rw [hraw]; rfl)]
  refine x_if_eq hC dX0_sets_23 (q := 26) rfl (tgt := 54) rfl (fun h23 => ?_) (fun h23 => ?_)
  · exact absurd h23 (by decide)
  have hx23 := h23
  refine x_iload hC dX0_sets_26 (q := 28) rfl rfl ?_
  refine x_aloadr_n hC dX0_sets_28 (q := 29) rfl rfl ?_
  refine x_get hC xf_X0_167_16 dX0_sets_29 (q := 32) rfl (n := (120, 0)) hd0 rfl ?_
  refine x_iload hC dX0_sets_32 (q := 34) rfl rfl ?_
  refine x_iald hC dX0_sets_34 (q := 35) rfl (n := (121, 0)) (hd3 5 (by decide) (by decide)) (j := q) rfl (by omega) (by decide) ?_
  rw [(hS.2.2.2.2.2.2 q hq1).1]
  refine x_icmp_ge hC dX0_sets_35 (q := 38) rfl (tgt := 54) rfl (fun h35 => ?_) (fun h35 => ?_)
  · have hx35 := h35
    refine x_iconst hC dX0_sets_54 (q := 55) rfl (v := (0)) (by decide) ?_
    refine x_istore hC dX0_sets_55 (q := 57) rfl rfl ?_
    refine x_aloadr_n hC dX0_sets_57 (q := 58) rfl rfl ?_
    refine x_iload_n hC dX0_sets_58 (q := 59) rfl rfl ?_
    refine x_iload hC dX0_sets_59 (q := 61) rfl rfl ?_
    refine x_iload hC dX0_sets_61 (q := 63) rfl rfl ?_
    refine x_callV hC xv_X0_170 dX0_sets_63 (q := 66) rfl rfl (m_X2_set_far h0 σ gF hv c (by rw [hl.1]; exact hc1) q (by rw [hl.2.1]; exact hq1) pl hraw hpl (by omega)) (nn := (0, 0)) rfl rfl rfl (Nat.le_of_ble_eq_true rfl) ⟨(by (try dsimp only); omega), (by (try dsimp only); omega)⟩ ⟨(by (try dsimp only); omega), (by (try dsimp only); omega)⟩ (fun v g1 hp => ?_)
    obtain ⟨rfl, hg1⟩ := hp
    replace hg1 : g1 = kmix (kRf σ) gF := hg1
    subst hg1
    have hw2 := kRf_W hv.1
    have hl2 : LT (kRf σ) α := hl.eq rfl rfl (fun _ => rfl) (fun _ => rfl) (fun _ => rfl)
    refine x_iload hC dX0_sets_66 (q := 68) rfl rfl ?_
    refine x_icmp_ne hC dX0_sets_68 (q := 71) rfl (tgt := 127) rfl (fun h68 => ?_) (fun h68 => ?_)
    · exact absurd rfl h68
    refine x_iload hC dX0_sets_71 (q := 73) rfl rfl ?_
    refine x_if_eq hC dX0_sets_73 (q := 76) rfl (tgt := 110) rfl (fun h73 => ?_) (fun h73 => ?_)
    · refine x_aloadr_n hC dX0_sets_110 (q := 111) rfl rfl ?_
      refine x_aloadr_n hC dX0_sets_111 (q := 112) rfl rfl ?_
      refine x_aloadr_n hC dX0_sets_112 (q := 113) rfl rfl ?_
      refine x_iload hC dX0_sets_113 (q := 115) rfl rfl ?_
      refine x_iload_n hC dX0_sets_115 (q := 116) rfl rfl ?_
      refine x_iconst hC dX0_sets_116 (q := 117) rfl (v := (-1)) (by decide) ?_
      refine x_callS hC xv_X0_174 dX0_sets_117 (q := 120) rfl rfl (m_X0_isBehind_f h0 _ gF hD hA hok hw2 hl2 _ _ (kRf_DS hok hS) (by rw [hI3, kRf_3, ← iI_add]; rfl)) rfl (Nat.le_of_ble_eq_true rfl) ⟨(by (try dsimp only); omega), (by (try dsimp only); omega)⟩ ⟨(by (try dsimp only); omega), (by (try dsimp only); omega)⟩ (fun v g1 hp => ?_)
      obtain ⟨rfl, hg1⟩ := hp
      replace hg1 := hg1.symm
      subst hg1
      refine x_if_eq hC dX0_sets_120 (q := 123) rfl (tgt := 127) rfl (fun h120 => ?_) (fun h120 => ?_)
      · exact absurd h120 (by decide)
      refine x_iconst hC dX0_sets_123 (q := 124) rfl (v := (1)) (by decide) ?_
      refine x_goto hC dX0_sets_124 (tgt := 128) rfl ?_
      exact x_zret hC hr rfl dX0_sets_128 (by (try dsimp only); omega) (by (try dsimp only); omega) ⟨rfl, rfl⟩
    · exact absurd rfl h73
  · exact absurd (nI_le hpl (by omega)) h35

set_option maxHeartbeats 4000000 in
set_option maxRecDepth 100000 in
theorem m_X0_sets_full {l : Launch} {s0 : State} {D : va_G} (h0 : x0 l s0 D) (σ : KS) (gF : xG) {ad aa : Nat} {α : aA} {I : Nat → Int32} {V : Nat → Nat → Int32} {M : Nat → Nat → Nat → Int32} (hD : DW gF ad I V M) (hA : AH gF aa α) (hok : aOk α) (hv : KV σ) (hl : LT σ α) (hS : DS σ α I V M (-1) (-1)) (hI3 : I 3 = iI (kV σ 1 0 3)) {c q pl c2 : Nat} (hc1 : c < aI α 0) (hq1 : q < aI α 1) (hraw : kI σ 34 c = -1) (hpl : pl < kA σ 25 q) (hpb : pl < 100) (hpP : KPl σ) (hn : kO σ 1 q pl = some c2) : xMet l s0 D yX0_sets cX0_sets 7 (some .boolean) (xr 23 25 340 1300) [.ref (kA σ 0 0), .ref aa, .ref ad, .int (nI c), .int (nI q), .int (nI pl)] (kmix σ gF) (fun r g1 => r = some (.int 1) ∧ g1 = kmix (kRf σ) gF) := by
  obtain ⟨ra, rr, hd0, hd3, hd6, hdb, hdr, hdc, hdk, hdx, hdy⟩ := hD.km σ
  obtain ⟨ca, ga, rm, hat, hac, hag, har⟩ := hA.km σ
  have hb0 := hok.1
  have hb1 := hok.2.1
  refine xMet.of h0 (by decide +kernel) rfl ?_
  intro zp ze zs zm za zb zf zc hC hr hnm
  refine x_iload_n hC dX0_sets_0 (q := 1) rfl rfl ?_
  refine x_aloadr_n hC dX0_sets_1 (q := 2) rfl rfl ?_
  refine x_get hC xf_X0_60_0 dX0_sets_2 (q := 5) rfl (n := (101, 0)) hat rfl ?_
  refine x_icmp_ge hC dX0_sets_5 (q := 8) rfl (tgt := 54) rfl (fun h5 => ?_) (fun h5 => ?_)
  · exact absurd ((nI_leI (by omega) (by omega)).mp h5) (by omega)
  have hx5 := h5
  refine x_iload hC dX0_sets_8 (q := 10) rfl rfl ?_
  refine x_aloadr_n hC dX0_sets_10 (q := 11) rfl rfl ?_
  refine x_get hC xf_X0_54_0 dX0_sets_11 (q := 14) rfl (n := (101, 0)) hat rfl ?_
  refine x_icmp_ge hC dX0_sets_14 (q := 17) rfl (tgt := 54) rfl (fun h14 => ?_) (fun h14 => ?_)
  · exact absurd ((nI_leI (by omega) (by omega)).mp h14) (by omega)
  have hx14 := h14
  refine x_aloadr_n hC dX0_sets_17 (q := 18) rfl rfl ?_
  refine x_get hC xf_X0_163_16 dX0_sets_18 (q := 21) rfl (n := (120, 0)) hd0 rfl ?_
  refine x_iload_n hC dX0_sets_21 (q := 22) rfl rfl ?_
  refine x_zald hC dX0_sets_22 (q := 23) rfl (n := (131, 0)) hdb (j := c) rfl (by omega) (by decide) ?_
  rw [(hS.2.2.2.2.2.1 c hc1 (nI_nm1 (by omega))).2.2.2.1, if_pos (show iI (kI σ 34 c) = -1 by rw [hraw]; rfl)]
  refine x_if_eq hC dX0_sets_23 (q := 26) rfl (tgt := 54) rfl (fun h23 => ?_) (fun h23 => ?_)
  · exact absurd h23 (by decide)
  have hx23 := h23
  refine x_iload hC dX0_sets_26 (q := 28) rfl rfl ?_
  refine x_aloadr_n hC dX0_sets_28 (q := 29) rfl rfl ?_
  refine x_get hC xf_X0_167_16 dX0_sets_29 (q := 32) rfl (n := (120, 0)) hd0 rfl ?_
  refine x_iload hC dX0_sets_32 (q := 34) rfl rfl ?_
  refine x_iald hC dX0_sets_34 (q := 35) rfl (n := (121, 0)) (hd3 5 (by decide) (by decide)) (j := q) rfl (by omega) (by decide) ?_
  rw [(hS.2.2.2.2.2.2 q hq1).1]
  refine x_icmp_ge hC dX0_sets_35 (q := 38) rfl (tgt := 54) rfl (fun h35 => ?_) (fun h35 => ?_)
  · exact absurd ((nI_leI (by rw [hl.2.2.2 q hq1]; have := (hok.2.2.2.2.2.2.2.2.2.2.2 q).2; omega) (by omega)).mp h35) (by omega)
  have hx35 := h35
  refine x_aloadr_n hC dX0_sets_38 (q := 39) rfl rfl ?_
  refine x_aloadr_n hC dX0_sets_39 (q := 40) rfl rfl ?_
  refine x_iload hC dX0_sets_40 (q := 42) rfl rfl ?_
  refine x_iload hC dX0_sets_42 (q := 44) rfl rfl ?_
  refine x_callV hC xv_X0_124 dX0_sets_44 (q := 47) rfl rfl (m_X19_who h0 _ (hD.km σ) (hA.km σ) hok (nI q) (nI pl)) (nn := (120, 0)) hd0 rfl rfl (Nat.le_of_ble_eq_true rfl) ⟨(Nat.le_of_ble_eq_true rfl), (Nat.le_of_ble_eq_true rfl)⟩ ⟨(Nat.le_of_ble_eq_true rfl), (Nat.le_of_ble_eq_true rfl)⟩ (fun v g1 hp => ?_)
  rw [kWho_at hok hl hpP (fun d hd => ⟨(hS.2.2.2.2.2.1 d hd (nI_nm1 (by omega))).1, (hS.2.2.2.2.2.1 d hd (nI_nm1 (by omega))).2.1⟩) hq1 hpb _ (Nat.le_refl _), show aAt σ q pl (aI α 0) = nI c2 from by unfold aAt; rw [hn]; exact if_pos (by rw [← hl.1]; exact ((hpP.1 q pl c2).mp hn).1)] at hp
  obtain ⟨rfl, hg1⟩ := hp
  replace hg1 := hg1.symm
  subst hg1
  refine x_if_ge hC dX0_sets_47 (q := 50) rfl (tgt := 54) rfl (fun h47 => ?_) (fun h47 => ?_)
  · have hx47 := h47
    refine x_iconst hC dX0_sets_54 (q := 55) rfl (v := (0)) (by decide) ?_
    refine x_istore hC dX0_sets_55 (q := 57) rfl rfl ?_
    refine x_aloadr_n hC dX0_sets_57 (q := 58) rfl rfl ?_
    refine x_iload_n hC dX0_sets_58 (q := 59) rfl rfl ?_
    refine x_iload hC dX0_sets_59 (q := 61) rfl rfl ?_
    refine x_iload hC dX0_sets_61 (q := 63) rfl rfl ?_
    refine x_callV hC xv_X0_170 dX0_sets_63 (q := 66) rfl rfl (m_X2_set_full h0 σ gF hv c (by rw [hl.1]; exact hc1) q (by rw [hl.2.1]; exact hq1) pl hraw hpl hn) (nn := (0, 0)) rfl rfl rfl (Nat.le_of_ble_eq_true rfl) ⟨(by (try dsimp only); omega), (by (try dsimp only); omega)⟩ ⟨(by (try dsimp only); omega), (by (try dsimp only); omega)⟩ (fun v g1 hp => ?_)
    obtain ⟨rfl, hg1⟩ := hp
    replace hg1 : g1 = kmix (kRf σ) gF := hg1
    subst hg1
    have hw2 := kRf_W hv.1
    have hl2 : LT (kRf σ) α := hl.eq rfl rfl (fun _ => rfl) (fun _ => rfl) (fun _ => rfl)
    refine x_iload hC dX0_sets_66 (q := 68) rfl rfl ?_
    refine x_icmp_ne hC dX0_sets_68 (q := 71) rfl (tgt := 127) rfl (fun h68 => ?_) (fun h68 => ?_)
    · exact absurd rfl h68
    refine x_iload hC dX0_sets_71 (q := 73) rfl rfl ?_
    refine x_if_eq hC dX0_sets_73 (q := 76) rfl (tgt := 110) rfl (fun h73 => ?_) (fun h73 => ?_)
    · refine x_aloadr_n hC dX0_sets_110 (q := 111) rfl rfl ?_
      refine x_aloadr_n hC dX0_sets_111 (q := 112) rfl rfl ?_
      refine x_aloadr_n hC dX0_sets_112 (q := 113) rfl rfl ?_
      refine x_iload hC dX0_sets_113 (q := 115) rfl rfl ?_
      refine x_iload_n hC dX0_sets_115 (q := 116) rfl rfl ?_
      refine x_iconst hC dX0_sets_116 (q := 117) rfl (v := (-1)) (by decide) ?_
      refine x_callS hC xv_X0_174 dX0_sets_117 (q := 120) rfl rfl (m_X0_isBehind_f h0 _ gF hD hA hok hw2 hl2 _ _ (kRf_DS hok hS) (by rw [hI3, kRf_3, ← iI_add]; rfl)) rfl (Nat.le_of_ble_eq_true rfl) ⟨(by (try dsimp only); omega), (by (try dsimp only); omega)⟩ ⟨(by (try dsimp only); omega), (by (try dsimp only); omega)⟩ (fun v g1 hp => ?_)
      obtain ⟨rfl, hg1⟩ := hp
      replace hg1 := hg1.symm
      subst hg1
      refine x_if_eq hC dX0_sets_120 (q := 123) rfl (tgt := 127) rfl (fun h120 => ?_) (fun h120 => ?_)
      · exact absurd h120 (by decide)
      refine x_iconst hC dX0_sets_123 (q := 124) rfl (v := (1)) (by decide) ?_
      refine x_goto hC dX0_sets_124 (tgt := 128) rfl ?_
      exact x_zret hC hr rfl dX0_sets_128 (by (try dsimp only); omega) (by (try dsimp only); omega) ⟨rfl, rfl⟩
    · exact absurd rfl h73
  · exact absurd (show (0 : Int32) ≤ nI c2 from nI_le (a := 0) (Nat.zero_le _) (by have := ((hpP.1 q pl c2).mp hn).1; rw [hl.1] at this; omega)) h47
