/-! a child is taken -/
theorem kPl_none {σ : KS} {q p : Nat} (h : kO σ 1 q p = none) : kPl σ q p = -1 := by
  unfold kPl
  rw [h]
  split <;> rfl
theorem kGo_at {σ : KS} {c q p : Nat} (h1 : kO σ 0 c 0 = some q) (h2 : kI σ 33 c = p) : kGo σ c = kIs (kOs (kOs σ 1 q p none) 0 c 0 none) 33 c (-1) := by
  unfold kGo
  rw [h1, h2]
  rfl

set_option maxHeartbeats 4000000 in
set_option maxRecDepth 100000 in
theorem m_X0_takes_t {l : Launch} {s0 : State} {D : va_G} (h0 : x0 l s0 D) (σ : KS) (gF : xG) {ad aa : Nat} {α : aA} {I : Nat → Int32} {V : Nat → Nat → Int32} {M : Nat → Nat → Nat → Int32} (hD : DW gF ad I V M) (hA : AH gF aa α) (hok : aOk α) (hv : KV σ) (hl : LT σ α) (hS : DS σ α I V M (-1) (-1)) (hI3 : I 3 = iI (kV σ 1 0 3)) {d0 : Nat} (hz : xE0 s0 gF d0) (h10 : kA σ 63 0 ≤ 10) (h48 : ∀ k, 48 ≤ k → k ≤ 52 → gF (k, 0) = none) (h54 : gF (54, 0) = none) (hAc : KAc σ d0) (hpP : KPl σ) {c q : Nat} (hc1 : c < aI α 0) (hqO : kO σ 0 c 0 = some q) : xMet l s0 D yX0_takes cX0_takes 5 (some .boolean) (xr 23 25 340 1300) [.ref (kA σ 0 0), .ref aa, .ref ad, .int (nI c)] (kmix σ gF) (fun r g1 => r = some (.int 1) ∧ ∃ σ1, kKp σ σ1 d0 ∧ g1 = kmix (kGo σ1 c) gF) := by
  obtain ⟨ra, rr, hd0, hd3, hd6, hdb, hdr, hdc, hdk, hdx, hdy⟩ := hD.km σ
  obtain ⟨ca, ga, rm, hat, hac, hag, har⟩ := hA.km σ
  have hb0 := hok.1
  have hb1 := hok.2.1
  have hkl : kKil σ c = nI q := by unfold kKil; rw [hqO]
  obtain ⟨hqk, p, hpr, hp33⟩ := hpP.2.1 c q (by rw [hl.1]; exact hc1) hqO
  have hpb : p < 100 := by
    rw [hl.2.1] at hqk
    rw [hl.2.2.2 q hqk] at hpr
    have := (hok.2.2.2.2.2.2.2.2.2.2.2 q).2
    omega
  have hqb : q < 100 := by
    have := hqk
    rw [hl.2.1] at this
    omega
  obtain ⟨rb, rr2, hd0b, -, hd6b, -⟩ := id hD
  refine xMet.of h0 (by decide +kernel) rfl ?_
  intro zp ze zs zm za zb zf zc hC hr hnm
  refine x_iload_n hC dX0_takes_0 (q := 1) rfl rfl ?_
  refine x_aloadr_n hC dX0_takes_1 (q := 2) rfl rfl ?_
  refine x_get hC xf_X0_60_0 dX0_takes_2 (q := 5) rfl (n := (101, 0)) hat rfl ?_
  refine x_icmp_ge hC dX0_takes_5 (q := 8) rfl (tgt := 21) rfl (fun h5 => ?_) (fun h5 => ?_)
  · exact absurd ((nI_leI (by omega) (by omega)).mp h5) (by omega)
  have hq2 := h5
  refine x_aloadr_n hC dX0_takes_8 (q := 9) rfl rfl ?_
  refine x_get hC xf_X0_120_16 dX0_takes_9 (q := 12) rfl (n := (120, 0)) hd0 rfl ?_
  refine x_iload_n hC dX0_takes_12 (q := 13) rfl rfl ?_
  refine x_iald hC dX0_takes_13 (q := 14) rfl (n := (126, 0)) (hd6 10 (by decide) (by decide)) (j := c) rfl (by omega) (by decide) ?_
  rw [(hS.2.2.2.2.2.1 c hc1 (nI_nm1 (by omega))).1, hkl]
  refine x_if_lt hC dX0_takes_14 (q := 17) rfl (tgt := 21) rfl (fun h14 => ?_) (fun h14 => ?_)
  · exact absurd h14 (Int32.not_lt.mpr (nI_le (a := 0) (Nat.zero_le _) (by omega)))
  refine x_iconst hC dX0_takes_17 (q := 18) rfl (v := (1)) (by decide) ?_
  refine x_goto hC dX0_takes_18 (tgt := 22) rfl ?_
  refine x_istore hC dX0_takes_22 (q := 24) rfl rfl ?_
  refine x_aloadr_n hC dX0_takes_24 (q := 25) rfl rfl ?_
  refine x_iload_n hC dX0_takes_25 (q := 26) rfl rfl ?_
  refine x_callV hC xv_X0_178 dX0_takes_26 (q := 29) rfl rfl (m_X2_take_t h0 σ gF hv hz h10 h48 h54 hAc c (by rw [hl.1]; exact hc1) (by rw [hqO]; exact fun w => by cases w)) (nn := (0, 0)) rfl rfl rfl (Nat.le_of_ble_eq_true rfl) ⟨(by (try dsimp only); omega), (by (try dsimp only); omega)⟩ ⟨(by (try dsimp only); omega), (by (try dsimp only); omega)⟩ (fun v g1 hp => ?_)
  obtain ⟨σ2, rfl, hk, hg1⟩ := hp
  have e := kGo_at (σ := σ2) (c := c) (q := q) (p := p) (by rw [hk.O]; exact hqO) ((hk.I rfl c).trans hp33)
  have hw3 : KW (kGo σ2 c) := (kGo_V (hk.KV hv) c).1
  obtain ⟨σ3, h3⟩ : ∃ x, x = kGo σ2 c := ⟨_, rfl⟩
  rw [← h3] at hg1 hw3
  subst hg1
  have e := h3.trans e
  have hA3 : kA σ3 0 0 = kA σ 0 0 := by rw [e]; exact hk.A rfl 0
  rw [← hA3]
  have hl3 : LT σ3 α := by rw [e]; exact (hk.LT hl).eq rfl rfl (fun _ => rfl) (fun _ => rfl) (fun _ => rfl)
  have hS3 : DS σ3 α I V M (nI c) (-1) := by
    rw [e]
    exact (hk.DS hok hS).eq hok (nI c) (-1) rfl rfl rfl rfl (fun _ _ => rfl) (fun _ => rfl) (fun d _ hne => ⟨if_neg (fun w => hne (by rw [w.2.1])), if_neg (fun w => hne (by rw [w.2])), rfl⟩) (fun _ => rfl) (fun _ _ _ => rfl)
  have hn3 : kO σ3 0 c 0 = none := by rw [e]; exact if_pos ⟨rfl, rfl, rfl⟩
  have hp3 : kO σ3 1 q p = none := by rw [e]; exact if_pos ⟨rfl, rfl, rfl⟩
  have hv3 : kV σ3 1 0 3 = kV σ 1 0 3 := by rw [e]; exact hk.V rfl 0 3
  refine x_iload hC dX0_takes_29 (q := 31) rfl rfl ?_
  refine x_icmp_ne hC dX0_takes_31 (q := 34) rfl (tgt := 86) rfl (fun h31 => ?_) (fun h31 => ?_)
  · exact absurd rfl h31
  refine x_iload hC dX0_takes_34 (q := 36) rfl rfl ?_
  refine x_if_eq hC dX0_takes_36 (q := 39) rfl (tgt := 69) rfl (fun h36 => ?_) (fun h36 => ?_)
  · exact absurd h36 (by decide)
  refine x_aloadr_n hC dX0_takes_39 (q := 40) rfl rfl ?_
  refine x_iload_n hC dX0_takes_40 (q := 41) rfl rfl ?_
  refine x_iconst hC dX0_takes_41 (q := 42) rfl (v := (2)) (by decide) ?_
  refine x_callV hC xv_X0_63 dX0_takes_42 (q := 45) rfl rfl (m_X2_child_2 h0 σ3 gF hw3 c (by rw [hl3.1]; exact hc1)) (nn := (0, 0)) rfl rfl rfl (Nat.le_of_ble_eq_true rfl) ⟨(by (try dsimp only); omega), (by (try dsimp only); omega)⟩ ⟨(by (try dsimp only); omega), (by (try dsimp only); omega)⟩ (fun v g1 hp => ?_)
  rw [kKil_none hn3] at hp
  obtain ⟨rfl, hg1⟩ := hp
  replace hg1 := hg1.symm
  subst hg1
  refine x_iconst hC dX0_takes_45 (q := 46) rfl (v := (-1)) (by decide) ?_
  refine x_icmp_ne hC dX0_takes_46 (q := 49) rfl (tgt := 86) rfl (fun h46 => ?_) (fun h46 => ?_)
  · exact absurd rfl h46
  refine x_aloadr_n hC dX0_takes_49 (q := 50) rfl rfl ?_
  refine x_aloadr_n hC dX0_takes_50 (q := 51) rfl rfl ?_
  refine x_get hC xf_X0_120_16 dX0_takes_51 (q := 54) rfl (n := (120, 0)) hd0 rfl ?_
  refine x_iload_n hC dX0_takes_54 (q := 55) rfl rfl ?_
  refine x_iald hC dX0_takes_55 (q := 56) rfl (n := (126, 0)) (hd6 10 (by decide) (by decide)) (j := c) rfl (by omega) (by decide) ?_
  refine x_aloadr_n hC dX0_takes_56 (q := 57) rfl rfl ?_
  refine x_get hC xf_X0_122_16 dX0_takes_57 (q := 60) rfl (n := (120, 0)) hd0 rfl ?_
  refine x_iload_n hC dX0_takes_60 (q := 61) rfl rfl ?_
  refine x_iald hC dX0_takes_61 (q := 62) rfl (n := (127, 0)) (hd6 11 (by decide) (by decide)) (j := c) rfl (by omega) (by decide) ?_
  rw [(hS.2.2.2.2.2.1 c hc1 (nI_nm1 (by omega))).1, hkl, (hS.2.2.2.2.2.1 c hc1 (nI_nm1 (by omega))).2.1, hp33, iI_nat]
  refine x_callV hC xv_X0_66 dX0_takes_62 (q := 65) rfl rfl (m_X2_place h0 σ3 gF hw3 q (by rw [hl3.2.1, ← hl.2.1]; exact hqk) p (by omega)) (nn := (0, 0)) rfl rfl rfl (Nat.le_of_ble_eq_true rfl) ⟨(by (try dsimp only); omega), (by (try dsimp only); omega)⟩ ⟨(by (try dsimp only); omega), (by (try dsimp only); omega)⟩ (fun v g1 hp => ?_)
  rw [kPl_none hp3] at hp
  obtain ⟨rfl, hg1⟩ := hp
  replace hg1 := hg1.symm
  subst hg1
  refine x_iconst hC dX0_takes_65 (q := 66) rfl (v := (-1)) (by decide) ?_
  refine x_icmp_ne hC dX0_takes_66 (q := 69) rfl (tgt := 86) rfl (fun h66 => ?_) (fun h66 => ?_)
  · exact absurd rfl h66
  refine x_aloadr_n hC dX0_takes_69 (q := 70) rfl rfl ?_
  refine x_aloadr_n hC dX0_takes_70 (q := 71) rfl rfl ?_
  refine x_aloadr_n hC dX0_takes_71 (q := 72) rfl rfl ?_
  refine x_iload hC dX0_takes_72 (q := 74) rfl rfl ?_
  refine x_iload_n hC dX0_takes_74 (q := 75) rfl rfl ?_
  refine x_iconst hC dX0_takes_75 (q := 76) rfl (v := (-1)) (by decide) ?_
  refine x_callS hC xv_X0_174 dX0_takes_76 (q := 79) rfl rfl (m_X0_isBehind_t h0 _ gF hD hA hok hw3 hl3 hS3 (by rw [hI3, hv3]; exact (Int32.add_zero _).symm)) rfl (Nat.le_of_ble_eq_true rfl) ⟨(by (try dsimp only); omega), (by (try dsimp only); omega)⟩ ⟨(by (try dsimp only); omega), (by (try dsimp only); omega)⟩ (fun v g1 hp => ?_)
  obtain ⟨rfl, hg1⟩ := hp
  replace hg1 := hg1.symm
  subst hg1
  refine x_if_eq hC dX0_takes_79 (q := 82) rfl (tgt := 86) rfl (fun h79 => ?_) (fun h79 => ?_)
  · exact absurd h79 (by decide)
  refine x_iconst hC dX0_takes_82 (q := 83) rfl (v := (1)) (by decide) ?_
  refine x_goto hC dX0_takes_83 (tgt := 87) rfl ?_
  exact x_zret hC hr rfl dX0_takes_87 (by (try dsimp only); omega) (by (try dsimp only); omega) ⟨rfl, σ2, hk, by rw [h3]⟩
