/-! a kiln is lit, the walk -/
theorem KW.k41 {σ : KS} (h : KW σ) (q : Nat) (z : Int) : KW (kIs σ 41 q z) := h.of rfl (fun c q hc e => h.2.2.2.2.1 c q hc e) (fun q p c hq e => h.2.2.2.2.2 q p c hq e)
theorem kRf_W {σ : KS} (h : KW σ) : KW (kRf σ) := h.of rfl (fun c q hc e => h.2.2.2.2.1 c q hc e) (fun q p c hq e => h.2.2.2.2.2 q p c hq e)
theorem kRf_3 (σ : KS) : kV (kRf σ) 1 0 3 = kV σ 1 0 3 + 1 := by simp [kRf, kVs, kV]

set_option maxHeartbeats 4000000 in
set_option maxRecDepth 100000 in
theorem m_X0_lights_t {l : Launch} {s0 : State} {D : va_G} (h0 : x0 l s0 D) (σ : KS) (gF : xG) {ad aa : Nat} {α : aA} {I : Nat → Int32} {V : Nat → Nat → Int32} {M : Nat → Nat → Nat → Int32} (hD : DW gF ad I V M) (hA : AH gF aa α) (hok : aOk α) (hv : KV σ) (hl : LT σ α) (hS : DS σ α I V M (-1) (-1)) (hI3 : I 3 = iI (kV σ 1 0 3)) {d0 : Nat} (hz : xE0 s0 gF d0) (h10 : kA σ 63 0 ≤ 10) (h48 : ∀ k, 48 ≤ k → k ≤ 52 → gF (k, 0) = none) (h54 : gF (54, 0) = none) (hAc : KAc σ d0) {kq : Nat} (hq1 : kq < aI α 1) {z : Int} (hz1 : -1 ≤ z ∧ z ≤ 20) (hh : iB (kI σ 41 kq)) (hn : kI σ 41 kq ≠ z) : xMet l s0 D yX0_lights cX0_lights 6 (some .boolean) (xr 23 25 340 1300) [.ref (kA σ 0 0), .ref aa, .ref ad, .int (nI kq), .int (iI z)] (kmix σ gF) (fun r g1 => r = some (.int 1) ∧ ∃ σ1, kKp σ σ1 d0 ∧ g1 = kmix (kIs σ1 41 kq z) gF) := by
  obtain ⟨ra, rr, hd0, hd3, hd6, hdb, hdr, hdc, hdk, hdx, hdy⟩ := hD.km σ
  obtain ⟨ca, ga, rm, hat, hac, hag, har⟩ := hA.km σ
  have hb0 := hok.1
  have hb1 := hok.2.1
  refine xMet.of h0 (by decide +kernel) rfl ?_
  intro zp ze zs zm za zb zf zc hC hr hnm
  refine x_iload_n hC dX0_lights_0 (q := 1) rfl rfl ?_
  refine x_aloadr_n hC dX0_lights_1 (q := 2) rfl rfl ?_
  refine x_get hC xf_X0_54_0 dX0_lights_2 (q := 5) rfl (n := (101, 0)) hat rfl ?_
  refine x_icmp_ge hC dX0_lights_5 (q := 8) rfl (tgt := 23) rfl (fun h5 => ?_) (fun h5 => ?_)
  · exact absurd ((nI_leI (by omega) (by omega)).mp h5) (by omega)
  have hq2 := h5
  refine x_iload hC dX0_lights_8 (q := 10) rfl rfl ?_
  refine x_aloadr_n hC dX0_lights_10 (q := 11) rfl rfl ?_
  refine x_get hC xf_X0_149_16 dX0_lights_11 (q := 14) rfl (n := (120, 0)) hd0 rfl ?_
  refine x_iload_n hC dX0_lights_14 (q := 15) rfl rfl ?_
  refine x_iald hC dX0_lights_15 (q := 16) rfl (n := (123, 0)) (hd3 7 (by decide) (by decide)) (j := kq) rfl (by omega) (by decide) ?_
  rw [(hS.2.2.2.2.2.2 kq hq1).2 (nI_nm1 (by omega))]
  refine x_icmp_eq hC dX0_lights_16 (q := 19) rfl (tgt := 23) rfl (fun h16 => ?_) (fun h16 => ?_)
  · exact absurd ((iI_eq hh ⟨by omega, by omega⟩).mp h16.symm) hn
  refine x_iconst hC dX0_lights_19 (q := 20) rfl (v := (1)) (by decide) ?_
  refine x_goto hC dX0_lights_20 (tgt := 24) rfl ?_
  refine x_istore hC dX0_lights_24 (q := 26) rfl rfl ?_
  refine x_aloadr_n hC dX0_lights_26 (q := 27) rfl rfl ?_
  refine x_iload_n hC dX0_lights_27 (q := 28) rfl rfl ?_
  refine x_iload hC dX0_lights_28 (q := 30) rfl rfl ?_
  refine x_callV hC xv_X0_181 dX0_lights_30 (q := 33) rfl rfl (m_X2_light_t h0 σ gF hv hz h10 h48 h54 hAc kq (by rw [hl.2.1]; exact hq1) z ⟨by omega, by omega⟩ hz1 hh hn) (nn := (0, 0)) rfl rfl rfl (Nat.le_of_ble_eq_true rfl) ⟨(by (try dsimp only); omega), (by (try dsimp only); omega)⟩ ⟨(by (try dsimp only); omega), (by (try dsimp only); omega)⟩ (fun v g1 hp => ?_)
  obtain ⟨σ2, rfl, hk, hg1⟩ := hp
  subst hg1
  rw [show kA σ 0 0 = kA (kIs σ2 41 kq z) 0 0 from (hk.A rfl 0).symm]
  have hw2 := (hk.W hv.1).k41 kq z
  have hl2 : LT (kIs σ2 41 kq z) α := (hk.LT hl).eq rfl rfl (fun _ => rfl) (fun _ => rfl) (fun _ => rfl)
  have hS2 : DS (kIs σ2 41 kq z) α I V M (-1) (nI kq) := (hk.DS hok hS).eq hok (-1) (nI kq) rfl rfl rfl rfl (fun _ _ => rfl) (fun _ => rfl) (fun _ _ _ => ⟨rfl, rfl, rfl⟩) (fun _ => rfl) (fun q _ hne => if_neg (fun w => hne (by rw [w.2])))
  refine x_iload hC dX0_lights_33 (q := 35) rfl rfl ?_
  refine x_icmp_ne hC dX0_lights_35 (q := 38) rfl (tgt := 71) rfl (fun h35 => ?_) (fun h35 => ?_)
  · exact absurd rfl h35
  refine x_iload hC dX0_lights_38 (q := 40) rfl rfl ?_
  refine x_if_eq hC dX0_lights_40 (q := 43) rfl (tgt := 54) rfl (fun h40 => ?_) (fun h40 => ?_)
  · exact absurd h40 (by decide)
  refine x_aloadr_n hC dX0_lights_43 (q := 44) rfl rfl ?_
  refine x_iload_n hC dX0_lights_44 (q := 45) rfl rfl ?_
  refine x_iconst hC dX0_lights_45 (q := 46) rfl (v := (2)) (by decide) ?_
  refine x_callV hC xv_X0_80 dX0_lights_46 (q := 49) rfl rfl (m_X2_kiln_2 h0 _ gF hw2 kq (by rw [hl2.2.1]; exact hq1)) (nn := (0, 0)) rfl rfl rfl (Nat.le_of_ble_eq_true rfl) ⟨(by (try dsimp only); omega), (by (try dsimp only); omega)⟩ ⟨(by (try dsimp only); omega), (by (try dsimp only); omega)⟩ (fun v g1 hp => ?_)
  rw [show kI (kIs σ2 41 kq z) 41 kq = z from if_pos ⟨rfl, rfl⟩] at hp
  obtain ⟨rfl, hg1⟩ := hp
  replace hg1 := hg1.symm
  subst hg1
  refine x_iload hC dX0_lights_49 (q := 51) rfl rfl ?_
  refine x_icmp_ne hC dX0_lights_51 (q := 54) rfl (tgt := 71) rfl (fun h51 => ?_) (fun h51 => ?_)
  · exact absurd rfl h51
  refine x_aloadr_n hC dX0_lights_54 (q := 55) rfl rfl ?_
  refine x_aloadr_n hC dX0_lights_55 (q := 56) rfl rfl ?_
  refine x_aloadr_n hC dX0_lights_56 (q := 57) rfl rfl ?_
  refine x_iload hC dX0_lights_57 (q := 59) rfl rfl ?_
  refine x_iconst hC dX0_lights_59 (q := 60) rfl (v := (-1)) (by decide) ?_
  refine x_iload_n hC dX0_lights_60 (q := 61) rfl rfl ?_
  refine x_callS hC xv_X0_174 dX0_lights_61 (q := 64) rfl rfl (m_X0_isBehind_t h0 _ gF hD hA hok hw2 hl2 hS2 (by rw [hI3]; show iI (kV σ2 1 0 3) = _; rw [hk.V rfl 0 3]; exact (Int32.add_zero _).symm)) rfl (Nat.le_of_ble_eq_true rfl) ⟨(by (try dsimp only); omega), (by (try dsimp only); omega)⟩ ⟨(by (try dsimp only); omega), (by (try dsimp only); omega)⟩ (fun v g1 hp => ?_)
  obtain ⟨rfl, hg1⟩ := hp
  replace hg1 := hg1.symm
  subst hg1
  refine x_if_eq hC dX0_lights_64 (q := 67) rfl (tgt := 71) rfl (fun h64 => ?_) (fun h64 => ?_)
  · exact absurd h64 (by decide)
  refine x_iconst hC dX0_lights_67 (q := 68) rfl (v := (1)) (by decide) ?_
  refine x_goto hC dX0_lights_68 (tgt := 72) rfl ?_
  exact x_zret hC hr rfl dX0_lights_72 (by (try dsimp only); omega) (by (try dsimp only); omega) ⟨rfl, σ2, hk, rfl⟩

set_option maxHeartbeats 4000000 in
set_option maxRecDepth 100000 in
theorem m_X0_lights_n {l : Launch} {s0 : State} {D : va_G} (h0 : x0 l s0 D) (σ : KS) (gF : xG) {ad aa : Nat} {α : aA} {I : Nat → Int32} {V : Nat → Nat → Int32} {M : Nat → Nat → Nat → Int32} (hD : DW gF ad I V M) (hA : AH gF aa α) (hok : aOk α) (hv : KV σ) (hl : LT σ α) (hS : DS σ α I V M (-1) (-1)) (hI3 : I 3 = iI (kV σ 1 0 3)) {kq : Nat} (hq1 : kq < aI α 1) {z : Int} (hz1 : -1 ≤ z ∧ z ≤ 20) (hn : kI σ 41 kq = z) : xMet l s0 D yX0_lights cX0_lights 6 (some .boolean) (xr 23 25 340 1300) [.ref (kA σ 0 0), .ref aa, .ref ad, .int (nI kq), .int (iI z)] (kmix σ gF) (fun r g1 => r = some (.int 1) ∧ g1 = kmix (kRf σ) gF) := by
  obtain ⟨ra, rr, hd0, hd3, hd6, hdb, hdr, hdc, hdk, hdx, hdy⟩ := hD.km σ
  obtain ⟨ca, ga, rm, hat, hac, hag, har⟩ := hA.km σ
  have hb0 := hok.1
  have hb1 := hok.2.1
  refine xMet.of h0 (by decide +kernel) rfl ?_
  intro zp ze zs zm za zb zf zc hC hr hnm
  refine x_iload_n hC dX0_lights_0 (q := 1) rfl rfl ?_
  refine x_aloadr_n hC dX0_lights_1 (q := 2) rfl rfl ?_
  refine x_get hC xf_X0_54_0 dX0_lights_2 (q := 5) rfl (n := (101, 0)) hat rfl ?_
  refine x_icmp_ge hC dX0_lights_5 (q := 8) rfl (tgt := 23) rfl (fun h5 => ?_) (fun h5 => ?_)
  · exact absurd ((nI_leI (by omega) (by omega)).mp h5) (by omega)
  have hq2 := h5
  refine x_iload hC dX0_lights_8 (q := 10) rfl rfl ?_
  refine x_aloadr_n hC dX0_lights_10 (q := 11) rfl rfl ?_
  refine x_get hC xf_X0_149_16 dX0_lights_11 (q := 14) rfl (n := (120, 0)) hd0 rfl ?_
  refine x_iload_n hC dX0_lights_14 (q := 15) rfl rfl ?_
  refine x_iald hC dX0_lights_15 (q := 16) rfl (n := (123, 0)) (hd3 7 (by decide) (by decide)) (j := kq) rfl (by omega) (by decide) ?_
  rw [(hS.2.2.2.2.2.2 kq hq1).2 (nI_nm1 (by omega))]
  refine x_icmp_eq hC dX0_lights_16 (q := 19) rfl (tgt := 23) rfl (fun h16 => ?_) (fun h16 => ?_)
  · have h16x := h16
    refine x_iconst hC dX0_lights_23 (q := 24) rfl (v := (0)) (by decide) ?_
    refine x_istore hC dX0_lights_24 (q := 26) rfl rfl ?_
    refine x_aloadr_n hC dX0_lights_26 (q := 27) rfl rfl ?_
    refine x_iload_n hC dX0_lights_27 (q := 28) rfl rfl ?_
    refine x_iload hC dX0_lights_28 (q := 30) rfl rfl ?_
    refine x_callV hC xv_X0_181 dX0_lights_30 (q := 33) rfl rfl (m_X2_light_n h0 σ gF hv kq (by rw [hl.2.1]; exact hq1) z ⟨by omega, by omega⟩ hz1 (by rw [hn]; exact ⟨by omega, by omega⟩) hn) (nn := (0, 0)) rfl rfl rfl (Nat.le_of_ble_eq_true rfl) ⟨(by (try dsimp only); omega), (by (try dsimp only); omega)⟩ ⟨(by (try dsimp only); omega), (by (try dsimp only); omega)⟩ (fun v g1 hp => ?_)
    obtain ⟨rfl, hg1⟩ := hp
    replace hg1 : g1 = kmix (kRf σ) gF := hg1
    subst hg1
    have hw2 := kRf_W hv.1
    have hl2 : LT (kRf σ) α := hl.eq rfl rfl (fun _ => rfl) (fun _ => rfl) (fun _ => rfl)
    refine x_iload hC dX0_lights_33 (q := 35) rfl rfl ?_
    refine x_icmp_ne hC dX0_lights_35 (q := 38) rfl (tgt := 71) rfl (fun h35 => ?_) (fun h35 => ?_)
    · exact absurd rfl h35
    refine x_iload hC dX0_lights_38 (q := 40) rfl rfl ?_
    refine x_if_eq hC dX0_lights_40 (q := 43) rfl (tgt := 54) rfl (fun h40 => ?_) (fun h40 => ?_)
    · refine x_aloadr_n hC dX0_lights_54 (q := 55) rfl rfl ?_
      refine x_aloadr_n hC dX0_lights_55 (q := 56) rfl rfl ?_
      refine x_aloadr_n hC dX0_lights_56 (q := 57) rfl rfl ?_
      refine x_iload hC dX0_lights_57 (q := 59) rfl rfl ?_
      refine x_iconst hC dX0_lights_59 (q := 60) rfl (v := (-1)) (by decide) ?_
      refine x_iload_n hC dX0_lights_60 (q := 61) rfl rfl ?_
      refine x_callS hC xv_X0_174 dX0_lights_61 (q := 64) rfl rfl (m_X0_isBehind_f h0 _ gF hD hA hok hw2 hl2 _ _ (kRf_DS hok hS) (by rw [hI3, kRf_3, ← iI_add]; rfl)) rfl (Nat.le_of_ble_eq_true rfl) ⟨(by (try dsimp only); omega), (by (try dsimp only); omega)⟩ ⟨(by (try dsimp only); omega), (by (try dsimp only); omega)⟩ (fun v g1 hp => ?_)
      obtain ⟨rfl, hg1⟩ := hp
      replace hg1 := hg1.symm
      subst hg1
      refine x_if_eq hC dX0_lights_64 (q := 67) rfl (tgt := 71) rfl (fun h64 => ?_) (fun h64 => ?_)
      · exact absurd h64 (by decide)
      refine x_iconst hC dX0_lights_67 (q := 68) rfl (v := (1)) (by decide) ?_
      refine x_goto hC dX0_lights_68 (tgt := 72) rfl ?_
      exact x_zret hC hr rfl dX0_lights_72 (by (try dsimp only); omega) (by (try dsimp only); omega) ⟨rfl, rfl⟩
    · exact absurd rfl h40
  · exact absurd (by rw [hn]) h16

set_option maxHeartbeats 4000000 in
set_option maxRecDepth 100000 in
theorem m_X0_lights_o {l : Launch} {s0 : State} {D : va_G} (h0 : x0 l s0 D) (σ : KS) (gF : xG) {ad aa : Nat} {α : aA} {I : Nat → Int32} {V : Nat → Nat → Int32} {M : Nat → Nat → Nat → Int32} (hD : DW gF ad I V M) (hA : AH gF aa α) (hok : aOk α) (hv : KV σ) (hl : LT σ α) (hS : DS σ α I V M (-1) (-1)) (hI3 : I 3 = iI (kV σ 1 0 3)) {kq : Nat} (hq1 : aI α 1 ≤ kq) (hqb : kq < 100000) (y : Int32) : xMet l s0 D yX0_lights cX0_lights 6 (some .boolean) (xr 23 25 340 1300) [.ref (kA σ 0 0), .ref aa, .ref ad, .int (nI kq), .int y] (kmix σ gF) (fun r g1 => r = some (.int 1) ∧ g1 = kmix (kRf σ) gF) := by
  obtain ⟨ra, rr, hd0, hd3, hd6, hdb, hdr, hdc, hdk, hdx, hdy⟩ := hD.km σ
  obtain ⟨ca, ga, rm, hat, hac, hag, har⟩ := hA.km σ
  have hb0 := hok.1
  have hb1 := hok.2.1
  refine xMet.of h0 (by decide +kernel) rfl ?_
  intro zp ze zs zm za zb zf zc hC hr hnm
  refine x_iload_n hC dX0_lights_0 (q := 1) rfl rfl ?_
  refine x_aloadr_n hC dX0_lights_1 (q := 2) rfl rfl ?_
  refine x_get hC xf_X0_54_0 dX0_lights_2 (q := 5) rfl (n := (101, 0)) hat rfl ?_
  refine x_icmp_ge hC dX0_lights_5 (q := 8) rfl (tgt := 23) rfl (fun h5 => ?_) (fun h5 => ?_)
  · have hq2 := h5
    refine x_iconst hC dX0_lights_23 (q := 24) rfl (v := (0)) (by decide) ?_
    refine x_istore hC dX0_lights_24 (q := 26) rfl rfl ?_
    refine x_aloadr_n hC dX0_lights_26 (q := 27) rfl rfl ?_
    refine x_iload_n hC dX0_lights_27 (q := 28) rfl rfl ?_
    refine x_iload hC dX0_lights_28 (q := 30) rfl rfl ?_
    refine x_callV hC xv_X0_181 dX0_lights_30 (q := 33) rfl rfl (m_X2_light_nokiln h0 σ gF hv (nI kq) y (Or.inr (by rw [nI_toInt (by omega), hl.2.1]; omega))) (nn := (0, 0)) rfl rfl rfl (Nat.le_of_ble_eq_true rfl) ⟨(by (try dsimp only); omega), (by (try dsimp only); omega)⟩ ⟨(by (try dsimp only); omega), (by (try dsimp only); omega)⟩ (fun v g1 hp => ?_)
    obtain ⟨rfl, hg1⟩ := hp
    replace hg1 : g1 = kmix (kRf σ) gF := hg1
    subst hg1
    have hw2 := kRf_W hv.1
    have hl2 : LT (kRf σ) α := hl.eq rfl rfl (fun _ => rfl) (fun _ => rfl) (fun _ => rfl)
    refine x_iload hC dX0_lights_33 (q := 35) rfl rfl ?_
    refine x_icmp_ne hC dX0_lights_35 (q := 38) rfl (tgt := 71) rfl (fun h35 => ?_) (fun h35 => ?_)
    · exact absurd rfl h35
    refine x_iload hC dX0_lights_38 (q := 40) rfl rfl ?_
    refine x_if_eq hC dX0_lights_40 (q := 43) rfl (tgt := 54) rfl (fun h40 => ?_) (fun h40 => ?_)
    · refine x_aloadr_n hC dX0_lights_54 (q := 55) rfl rfl ?_
      refine x_aloadr_n hC dX0_lights_55 (q := 56) rfl rfl ?_
      refine x_aloadr_n hC dX0_lights_56 (q := 57) rfl rfl ?_
      refine x_iload hC dX0_lights_57 (q := 59) rfl rfl ?_
      refine x_iconst hC dX0_lights_59 (q := 60) rfl (v := (-1)) (by decide) ?_
      refine x_iload_n hC dX0_lights_60 (q := 61) rfl rfl ?_
      refine x_callS hC xv_X0_174 dX0_lights_61 (q := 64) rfl rfl (m_X0_isBehind_f h0 _ gF hD hA hok hw2 hl2 _ _ (kRf_DS hok hS) (by rw [hI3, kRf_3, ← iI_add]; rfl)) rfl (Nat.le_of_ble_eq_true rfl) ⟨(by (try dsimp only); omega), (by (try dsimp only); omega)⟩ ⟨(by (try dsimp only); omega), (by (try dsimp only); omega)⟩ (fun v g1 hp => ?_)
      obtain ⟨rfl, hg1⟩ := hp
      replace hg1 := hg1.symm
      subst hg1
      refine x_if_eq hC dX0_lights_64 (q := 67) rfl (tgt := 71) rfl (fun h64 => ?_) (fun h64 => ?_)
      · exact absurd h64 (by decide)
      refine x_iconst hC dX0_lights_67 (q := 68) rfl (v := (1)) (by decide) ?_
      refine x_goto hC dX0_lights_68 (tgt := 72) rfl ?_
      exact x_zret hC hr rfl dX0_lights_72 (by (try dsimp only); omega) (by (try dsimp only); omega) ⟨rfl, rfl⟩
    · exact absurd rfl h40
  · exact absurd (nI_le hq1 (by omega)) h5
