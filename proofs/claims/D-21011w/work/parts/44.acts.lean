/-! set, take, light -/
set_option maxHeartbeats 4000000 in
set_option maxRecDepth 100000 in
theorem m_X2_set_t {l : Launch} {s0 : State} {D : va_G} (h0 : x0 l s0 D) (σ : KS) (gF : xG) {d0 : Nat} (hv : KV σ) (hz : xE0 s0 gF d0) (h10 : kA σ 63 0 ≤ 10) (h48 : ∀ k, 48 ≤ k → k ≤ 52 → gF (k, 0) = none) (h54 : gF (54, 0) = none) (hac : KAc σ d0) (ch : Nat) (hc : ch < kA σ 61 0) (kq : Nat) (hq : kq < kA σ 62 0) (pl : Nat) (hraw : kI σ 34 ch = -1) (hpl : pl < kA σ 25 kq) (hn : kO σ 1 kq pl = none) : xMet l s0 D yX2_set cX2_set 6 (some .boolean) (xr 22 25 340 1200) [.ref (kA σ 0 0), .int (nI ch), .int (nI kq), .int (nI pl)] (kmix σ gF) (fun r g1 => ∃ σ1, r = some (.int 1) ∧ kKp σ σ1 d0 ∧ g1 = kmix (kOs (kIs (kOs (kGo σ1 ch) 0 ch 0 (some kq)) 33 ch pl) 1 kq pl (some ch)) gF) := by
  refine xMet.of h0 (by decide +kernel) rfl ?_
  intro p e s m args below meth c hC hr hnm
  refine x_aloadr_n hC dX2_set_0 (q := 1) rfl rfl ?_
  refine x_iload_n hC dX2_set_1 (q := 2) rfl rfl ?_
  refine x_callV hC xv_X2_313 dX2_set_2 (q := 5) rfl rfl (m_X2_childOf h0 σ gF hv.1 ch hc) (nn := (0, 0)) rfl rfl rfl (Nat.le_of_ble_eq_true rfl) ⟨(Nat.le_of_ble_eq_true rfl), (Nat.le_of_ble_eq_true rfl)⟩ ⟨(Nat.le_of_ble_eq_true rfl), (Nat.le_of_ble_eq_true rfl)⟩ (fun v g1 hp => ?_)
  obtain ⟨rfl, hg1⟩ := hp
  replace hg1 := hg1.symm
  subst hg1
  refine x_astorer hC dX2_set_5 (q := 7) rfl rfl ?_
  refine x_aloadr_n hC dX2_set_7 (q := 8) rfl rfl ?_
  refine x_iload_n hC dX2_set_8 (q := 9) rfl rfl ?_
  refine x_callV hC xv_X2_317 dX2_set_9 (q := 12) rfl rfl (m_X2_kilnOf h0 σ gF hv.1 kq hq) (nn := (0, 0)) rfl rfl rfl (Nat.le_of_ble_eq_true rfl) ⟨(Nat.le_of_ble_eq_true rfl), (Nat.le_of_ble_eq_true rfl)⟩ ⟨(Nat.le_of_ble_eq_true rfl), (Nat.le_of_ble_eq_true rfl)⟩ (fun v g1 hp => ?_)
  obtain ⟨rfl, hg1⟩ := hp
  replace hg1 := hg1.symm
  subst hg1
  refine x_astorer hC dX2_set_12 (q := 14) rfl rfl ?_
  refine x_aloadr hC dX2_set_14 (q := 16) rfl rfl ?_
  refine x_ifnull_r hC dX2_set_16 (q := 19) rfl ?_
  refine x_aloadr hC dX2_set_19 (q := 21) rfl rfl ?_
  refine x_ifnull_r hC dX2_set_21 (q := 24) rfl ?_
  refine x_aloadr hC dX2_set_24 (q := 26) rfl rfl ?_
  refine x_callV hC xv_X2_321 dX2_set_26 (q := 29) rfl rfl (m_X8_isFired h0 σ gF ch hc) (nn := (20, ch)) (kg_20 ch hc) rfl rfl (Nat.le_of_ble_eq_true rfl) ⟨(Nat.le_of_ble_eq_true rfl), (Nat.le_of_ble_eq_true rfl)⟩ ⟨(Nat.le_of_ble_eq_true rfl), (Nat.le_of_ble_eq_true rfl)⟩ (fun v g1 hp => ?_)
  obtain ⟨rfl, hg1⟩ := hp
  replace hg1 := hg1.symm
  subst hg1
  refine x_if_ne hC dX2_set_29 (q := 32) rfl (tgt := 59) rfl (fun h29 => ?_) (fun h29 => ?_)
  · exact absurd h29 (by rw [hraw]; decide)
  refine x_iload_n hC dX2_set_32 (q := 33) rfl rfl ?_
  refine x_i2l hC dX2_set_33 (q := 34) rfl ?_
  refine x_lconst hC dX2_set_34 (q := 35) rfl (v := 0) (by decide) ?_
  refine x_aloadr hC dX2_set_35 (q := 37) rfl rfl ?_
  refine x_get hC xf_X2_214_6 dX2_set_37 (q := 40) rfl (n := (21, kq)) (kg_21 kq hq) rfl ?_
  refine x_iconst hC dX2_set_40 (q := 41) rfl (v := (1)) (by decide) ?_
  refine x_isub hC dX2_set_41 (q := 42) rfl ?_
  refine x_i2l hC dX2_set_42 (q := 43) rfl ?_
  refine x_callS hC xv_X2_95 dX2_set_43 (q := 46) rfl rfl (m_isIn_t h0 _ (x := pl) (y := 0) (z := (kA σ 25 kq : Int) - 1) (nI64 (by have := hv.1.2.2.2.1 kq hq; omega)) rfl (nI64p (by have := hv.1.2.2.2.1 kq hq; omega)) (by omega)) rfl (Nat.le_of_ble_eq_true rfl) ⟨(Nat.le_of_ble_eq_true rfl), (Nat.le_of_ble_eq_true rfl)⟩ ⟨(Nat.le_of_ble_eq_true rfl), (Nat.le_of_ble_eq_true rfl)⟩ (fun v g1 hp => ?_)
  obtain ⟨rfl, hg1⟩ := hp
  replace hg1 := hg1.symm
  subst hg1
  refine x_if_eq hC dX2_set_46 (q := 49) rfl (tgt := 59) rfl (fun h46 => ?_) (fun h46 => ?_)
  · exact absurd h46 (by decide)
  refine x_aloadr hC dX2_set_49 (q := 51) rfl rfl ?_
  refine x_get hC xf_X2_324_6 dX2_set_51 (q := 54) rfl (n := (21, kq)) (kg_21 kq hq) rfl ?_
  refine x_iload_n hC dX2_set_54 (q := 55) rfl rfl ?_
  refine x_aald hC dX2_set_55 (q := 56) rfl (n := (22, kq)) (kg_22 kq hq) rfl (by have := hv.1.2.2.2.1 kq hq; omega) (by decide) rfl ?_
  refine x_ifnull hC dX2_set_56 (q := 59) rfl (tgt := 65) rfl (fun h56 => ?_) (fun a56 h56 => ?_)
  · refine x_aloadr_n hC dX2_set_65 (q := 66) rfl rfl ?_
    refine x_callV hC xv_X2_293 dX2_set_66 (q := 69) rfl rfl (m_X2_keeps h0 σ gF hv.1 hz h10 h48 h54 hac) (nn := (0, 0)) rfl rfl rfl (Nat.le_of_ble_eq_true rfl) ⟨(Nat.le_of_ble_eq_true rfl), (Nat.le_of_ble_eq_true rfl)⟩ ⟨(Nat.le_of_ble_eq_true rfl), (Nat.le_of_ble_eq_true rfl)⟩ (fun v g1 hp => ?_)
    obtain ⟨σ1, rfl, hkp, hg1⟩ := hp
    replace hg1 := hg1.symm
    subst hg1
    have hv1 := hkp.KV hv
    have hc1 : ch < kA σ1 61 0 := (by rw [hkp.A rfl]; exact hc)
    have hq1 : kq < kA σ1 62 0 := (by rw [hkp.A rfl]; exact hq)
    rw [(show kA σ 20 ch = kA σ1 20 ch from (hkp.A rfl ch).symm), (show kA σ 21 kq = kA σ1 21 kq from (hkp.A rfl kq).symm)]
    refine x_aloadr hC dX2_set_69 (q := 71) rfl rfl ?_
    refine x_callV hC xv_X2_328 dX2_set_71 (q := 74) rfl rfl (m_X8_goesOut h0 σ1 gF hv1 ch hc1) (nn := (20, ch)) (kg_20 (σ := σ1) ch hc1) rfl rfl (Nat.le_of_ble_eq_true rfl) ⟨(Nat.le_of_ble_eq_true rfl), (Nat.le_of_ble_eq_true rfl)⟩ ⟨(Nat.le_of_ble_eq_true rfl), (Nat.le_of_ble_eq_true rfl)⟩ (fun v g1 hp => ?_)
    obtain ⟨rfl, hg1⟩ := hp
    replace hg1 := hg1.symm
    subst hg1
    have ea := kA_kGo σ1 ch
    have hc2 : ch < kA (kGo σ1 ch) 61 0 := by rw [ea]; exact hc1
    rw [show kA σ1 20 ch = kA (kGo σ1 ch) 20 ch by rw [ea], show kA σ1 21 kq = kA (kGo σ1 ch) 21 kq by rw [ea]]
    refine x_aloadr hC dX2_set_74 (q := 76) rfl rfl ?_
    refine x_aloadr hC dX2_set_76 (q := 78) rfl rfl ?_
    refine x_iload_n hC dX2_set_78 (q := 79) rfl rfl ?_
    refine x_callV hC xv_X2_331 dX2_set_79 (q := 82) rfl rfl (m_X8_goesIn_s h0 (kGo σ1 ch) gF ch hc2 (kq := kq) (pl := pl) (by rw [ea]; exact hq1) (by have := hv.1.2.2.2.1 kq hq; omega)) (nn := (20, ch)) (kg_20 (σ := kGo σ1 ch) ch hc2) rfl rfl (Nat.le_of_ble_eq_true rfl) ⟨(Nat.le_of_ble_eq_true rfl), (Nat.le_of_ble_eq_true rfl)⟩ ⟨(Nat.le_of_ble_eq_true rfl), (Nat.le_of_ble_eq_true rfl)⟩ (fun v g1 hp => ?_)
    obtain ⟨rfl, hg1⟩ := hp
    replace hg1 := hg1.symm
    subst hg1
    refine x_iconst hC dX2_set_82 (q := 83) rfl (v := (1)) (by decide) ?_
    exact x_zret hC hr rfl dX2_set_83 (Nat.le_of_ble_eq_true rfl) (Nat.le_of_ble_eq_true rfl) ⟨σ1, rfl, hkp, rfl⟩
  · exact absurd h56 (by simp [hn])

set_option maxHeartbeats 4000000 in
set_option maxRecDepth 100000 in
theorem m_X2_set_fired {l : Launch} {s0 : State} {D : va_G} (h0 : x0 l s0 D) (σ : KS) (gF : xG) (hw : KW σ) (ch : Nat) (hc : ch < kA σ 61 0) (kq : Nat) (hq : kq < kA σ 62 0) (x : Int32) (hraw : kI σ 34 ch ≠ -1) (hb : iB (kI σ 34 ch)) : xMet l s0 D yX2_set cX2_set 6 (some .boolean) (xr 22 25 340 1200) [.ref (kA σ 0 0), .int (nI ch), .int (nI kq), .int x] (kmix σ gF) (fun r g1 => r = some (.int 0) ∧ g1 = kmix (kVs σ 1 0 3 (kV σ 1 0 3 + 1)) gF) := by
  refine xMet.of h0 (by decide +kernel) rfl ?_
  intro p e s m args below meth c hC hr hnm
  refine x_aloadr_n hC dX2_set_0 (q := 1) rfl rfl ?_
  refine x_iload_n hC dX2_set_1 (q := 2) rfl rfl ?_
  refine x_callV hC xv_X2_313 dX2_set_2 (q := 5) rfl rfl (m_X2_childOf h0 σ gF hw ch hc) (nn := (0, 0)) rfl rfl rfl (Nat.le_of_ble_eq_true rfl) ⟨(Nat.le_of_ble_eq_true rfl), (Nat.le_of_ble_eq_true rfl)⟩ ⟨(Nat.le_of_ble_eq_true rfl), (Nat.le_of_ble_eq_true rfl)⟩ (fun v g1 hp => ?_)
  obtain ⟨rfl, hg1⟩ := hp
  replace hg1 := hg1.symm
  subst hg1
  refine x_astorer hC dX2_set_5 (q := 7) rfl rfl ?_
  refine x_aloadr_n hC dX2_set_7 (q := 8) rfl rfl ?_
  refine x_iload_n hC dX2_set_8 (q := 9) rfl rfl ?_
  refine x_callV hC xv_X2_317 dX2_set_9 (q := 12) rfl rfl (m_X2_kilnOf h0 σ gF hw kq hq) (nn := (0, 0)) rfl rfl rfl (Nat.le_of_ble_eq_true rfl) ⟨(Nat.le_of_ble_eq_true rfl), (Nat.le_of_ble_eq_true rfl)⟩ ⟨(Nat.le_of_ble_eq_true rfl), (Nat.le_of_ble_eq_true rfl)⟩ (fun v g1 hp => ?_)
  obtain ⟨rfl, hg1⟩ := hp
  replace hg1 := hg1.symm
  subst hg1
  refine x_astorer hC dX2_set_12 (q := 14) rfl rfl ?_
  refine x_aloadr hC dX2_set_14 (q := 16) rfl rfl ?_
  refine x_ifnull_r hC dX2_set_16 (q := 19) rfl ?_
  refine x_aloadr hC dX2_set_19 (q := 21) rfl rfl ?_
  refine x_ifnull_r hC dX2_set_21 (q := 24) rfl ?_
  refine x_aloadr hC dX2_set_24 (q := 26) rfl rfl ?_
  refine x_callV hC xv_X2_321 dX2_set_26 (q := 29) rfl rfl (m_X8_isFired h0 σ gF ch hc) (nn := (20, ch)) (kg_20 ch hc) rfl rfl (Nat.le_of_ble_eq_true rfl) ⟨(Nat.le_of_ble_eq_true rfl), (Nat.le_of_ble_eq_true rfl)⟩ ⟨(Nat.le_of_ble_eq_true rfl), (Nat.le_of_ble_eq_true rfl)⟩ (fun v g1 hp => ?_)
  obtain ⟨rfl, hg1⟩ := hp
  replace hg1 := hg1.symm
  subst hg1
  refine x_if_ne hC dX2_set_29 (q := 32) rfl (tgt := 59) rfl (fun h29 => ?_) (fun h29 => ?_)
  · refine x_aloadr_n hC dX2_set_59 (q := 60) rfl rfl ?_
    refine x_iconst hC dX2_set_60 (q := 61) rfl (v := (3)) (by decide) ?_
    refine x_callV hC xv_X2_89 dX2_set_61 (q := 64) rfl rfl (m_X2_refuses h0 σ gF 3 (by decide)) (nn := (0, 0)) rfl rfl rfl (Nat.le_of_ble_eq_true rfl) ⟨(Nat.le_of_ble_eq_true rfl), (Nat.le_of_ble_eq_true rfl)⟩ ⟨(Nat.le_of_ble_eq_true rfl), (Nat.le_of_ble_eq_true rfl)⟩ (fun v g1 hp => ?_)
    obtain ⟨rfl, hg1⟩ := hp
    replace hg1 := hg1.symm
    subst hg1
    exact x_zret hC hr rfl dX2_set_64 (Nat.le_of_ble_eq_true rfl) (Nat.le_of_ble_eq_true rfl) ⟨rfl, rfl⟩
  · exact absurd h29 (by rw [if_neg (fun q => hraw ((iI_eq hb ⟨by decide, by decide⟩).mp (q.trans (show (-1 : Int32) = iI (-1) from rfl))))]; decide)

set_option maxHeartbeats 4000000 in
set_option maxRecDepth 100000 in
theorem m_X2_set_far {l : Launch} {s0 : State} {D : va_G} (h0 : x0 l s0 D) (σ : KS) (gF : xG) (hv : KV σ) (ch : Nat) (hc : ch < kA σ 61 0) (kq : Nat) (hq : kq < kA σ 62 0) (pl : Nat) (hraw : kI σ 34 ch = -1) (hpl : kA σ 25 kq ≤ pl) (hp2 : pl < 2147483648) : xMet l s0 D yX2_set cX2_set 6 (some .boolean) (xr 22 25 340 1200) [.ref (kA σ 0 0), .int (nI ch), .int (nI kq), .int (nI pl)] (kmix σ gF) (fun r g1 => r = some (.int 0) ∧ g1 = kmix (kVs σ 1 0 3 (kV σ 1 0 3 + 1)) gF) := by
  refine xMet.of h0 (by decide +kernel) rfl ?_
  intro p e s m args below meth c hC hr hnm
  refine x_aloadr_n hC dX2_set_0 (q := 1) rfl rfl ?_
  refine x_iload_n hC dX2_set_1 (q := 2) rfl rfl ?_
  refine x_callV hC xv_X2_313 dX2_set_2 (q := 5) rfl rfl (m_X2_childOf h0 σ gF hv.1 ch hc) (nn := (0, 0)) rfl rfl rfl (Nat.le_of_ble_eq_true rfl) ⟨(Nat.le_of_ble_eq_true rfl), (Nat.le_of_ble_eq_true rfl)⟩ ⟨(Nat.le_of_ble_eq_true rfl), (Nat.le_of_ble_eq_true rfl)⟩ (fun v g1 hp => ?_)
  obtain ⟨rfl, hg1⟩ := hp
  replace hg1 := hg1.symm
  subst hg1
  refine x_astorer hC dX2_set_5 (q := 7) rfl rfl ?_
  refine x_aloadr_n hC dX2_set_7 (q := 8) rfl rfl ?_
  refine x_iload_n hC dX2_set_8 (q := 9) rfl rfl ?_
  refine x_callV hC xv_X2_317 dX2_set_9 (q := 12) rfl rfl (m_X2_kilnOf h0 σ gF hv.1 kq hq) (nn := (0, 0)) rfl rfl rfl (Nat.le_of_ble_eq_true rfl) ⟨(Nat.le_of_ble_eq_true rfl), (Nat.le_of_ble_eq_true rfl)⟩ ⟨(Nat.le_of_ble_eq_true rfl), (Nat.le_of_ble_eq_true rfl)⟩ (fun v g1 hp => ?_)
  obtain ⟨rfl, hg1⟩ := hp
  replace hg1 := hg1.symm
  subst hg1
  refine x_astorer hC dX2_set_12 (q := 14) rfl rfl ?_
  refine x_aloadr hC dX2_set_14 (q := 16) rfl rfl ?_
  refine x_ifnull_r hC dX2_set_16 (q := 19) rfl ?_
  refine x_aloadr hC dX2_set_19 (q := 21) rfl rfl ?_
  refine x_ifnull_r hC dX2_set_21 (q := 24) rfl ?_
  refine x_aloadr hC dX2_set_24 (q := 26) rfl rfl ?_
  refine x_callV hC xv_X2_321 dX2_set_26 (q := 29) rfl rfl (m_X8_isFired h0 σ gF ch hc) (nn := (20, ch)) (kg_20 ch hc) rfl rfl (Nat.le_of_ble_eq_true rfl) ⟨(Nat.le_of_ble_eq_true rfl), (Nat.le_of_ble_eq_true rfl)⟩ ⟨(Nat.le_of_ble_eq_true rfl), (Nat.le_of_ble_eq_true rfl)⟩ (fun v g1 hp => ?_)
  obtain ⟨rfl, hg1⟩ := hp
  replace hg1 := hg1.symm
  subst hg1
  refine x_if_ne hC dX2_set_29 (q := 32) rfl (tgt := 59) rfl (fun h29 => ?_) (fun h29 => ?_)
  · exact absurd h29 (by rw [hraw]; decide)
  refine x_iload_n hC dX2_set_32 (q := 33) rfl rfl ?_
  refine x_i2l hC dX2_set_33 (q := 34) rfl ?_
  refine x_lconst hC dX2_set_34 (q := 35) rfl (v := 0) (by decide) ?_
  refine x_aloadr hC dX2_set_35 (q := 37) rfl rfl ?_
  refine x_get hC xf_X2_214_6 dX2_set_37 (q := 40) rfl (n := (21, kq)) (kg_21 kq hq) rfl ?_
  refine x_iconst hC dX2_set_40 (q := 41) rfl (v := (1)) (by decide) ?_
  refine x_isub hC dX2_set_41 (q := 42) rfl ?_
  refine x_i2l hC dX2_set_42 (q := 43) rfl ?_
  refine x_callS hC xv_X2_95 dX2_set_43 (q := 46) rfl rfl (m_isIn_f h0 _ (x := pl) (y := 0) (z := (kA σ 25 kq : Int) - 1) (nI64 (by have := hv.1.2.2.2.1 kq hq; omega)) rfl (nI64p (by have := hv.1.2.2.2.1 kq hq; omega)) (by omega)) rfl (Nat.le_of_ble_eq_true rfl) ⟨(Nat.le_of_ble_eq_true rfl), (Nat.le_of_ble_eq_true rfl)⟩ ⟨(Nat.le_of_ble_eq_true rfl), (Nat.le_of_ble_eq_true rfl)⟩ (fun v g1 hp => ?_)
  obtain ⟨rfl, hg1⟩ := hp
  replace hg1 := hg1.symm
  subst hg1
  refine x_if_eq hC dX2_set_46 (q := 49) rfl (tgt := 59) rfl (fun h46 => ?_) (fun h46 => ?_)
  · refine x_aloadr_n hC dX2_set_59 (q := 60) rfl rfl ?_
    refine x_iconst hC dX2_set_60 (q := 61) rfl (v := (3)) (by decide) ?_
    refine x_callV hC xv_X2_89 dX2_set_61 (q := 64) rfl rfl (m_X2_refuses h0 σ gF 3 (by decide)) (nn := (0, 0)) rfl rfl rfl (Nat.le_of_ble_eq_true rfl) ⟨(Nat.le_of_ble_eq_true rfl), (Nat.le_of_ble_eq_true rfl)⟩ ⟨(Nat.le_of_ble_eq_true rfl), (Nat.le_of_ble_eq_true rfl)⟩ (fun v g1 hp => ?_)
    obtain ⟨rfl, hg1⟩ := hp
    replace hg1 := hg1.symm
    subst hg1
    exact x_zret hC hr rfl dX2_set_64 (Nat.le_of_ble_eq_true rfl) (Nat.le_of_ble_eq_true rfl) ⟨rfl, rfl⟩
  · exact absurd rfl h46

set_option maxHeartbeats 4000000 in
set_option maxRecDepth 100000 in
theorem m_X2_set_full {l : Launch} {s0 : State} {D : va_G} (h0 : x0 l s0 D) (σ : KS) (gF : xG) (hv : KV σ) (ch : Nat) (hc : ch < kA σ 61 0) (kq : Nat) (hq : kq < kA σ 62 0) (pl : Nat) (hraw : kI σ 34 ch = -1) (hpl : pl < kA σ 25 kq) {c2 : Nat} (hn : kO σ 1 kq pl = some c2) : xMet l s0 D yX2_set cX2_set 6 (some .boolean) (xr 22 25 340 1200) [.ref (kA σ 0 0), .int (nI ch), .int (nI kq), .int (nI pl)] (kmix σ gF) (fun r g1 => r = some (.int 0) ∧ g1 = kmix (kVs σ 1 0 3 (kV σ 1 0 3 + 1)) gF) := by
  refine xMet.of h0 (by decide +kernel) rfl ?_
  intro p e s m args below meth c hC hr hnm
  refine x_aloadr_n hC dX2_set_0 (q := 1) rfl rfl ?_
  refine x_iload_n hC dX2_set_1 (q := 2) rfl rfl ?_
  refine x_callV hC xv_X2_313 dX2_set_2 (q := 5) rfl rfl (m_X2_childOf h0 σ gF hv.1 ch hc) (nn := (0, 0)) rfl rfl rfl (Nat.le_of_ble_eq_true rfl) ⟨(Nat.le_of_ble_eq_true rfl), (Nat.le_of_ble_eq_true rfl)⟩ ⟨(Nat.le_of_ble_eq_true rfl), (Nat.le_of_ble_eq_true rfl)⟩ (fun v g1 hp => ?_)
  obtain ⟨rfl, hg1⟩ := hp
  replace hg1 := hg1.symm
  subst hg1
  refine x_astorer hC dX2_set_5 (q := 7) rfl rfl ?_
  refine x_aloadr_n hC dX2_set_7 (q := 8) rfl rfl ?_
  refine x_iload_n hC dX2_set_8 (q := 9) rfl rfl ?_
  refine x_callV hC xv_X2_317 dX2_set_9 (q := 12) rfl rfl (m_X2_kilnOf h0 σ gF hv.1 kq hq) (nn := (0, 0)) rfl rfl rfl (Nat.le_of_ble_eq_true rfl) ⟨(Nat.le_of_ble_eq_true rfl), (Nat.le_of_ble_eq_true rfl)⟩ ⟨(Nat.le_of_ble_eq_true rfl), (Nat.le_of_ble_eq_true rfl)⟩ (fun v g1 hp => ?_)
  obtain ⟨rfl, hg1⟩ := hp
  replace hg1 := hg1.symm
  subst hg1
  refine x_astorer hC dX2_set_12 (q := 14) rfl rfl ?_
  refine x_aloadr hC dX2_set_14 (q := 16) rfl rfl ?_
  refine x_ifnull_r hC dX2_set_16 (q := 19) rfl ?_
  refine x_aloadr hC dX2_set_19 (q := 21) rfl rfl ?_
  refine x_ifnull_r hC dX2_set_21 (q := 24) rfl ?_
  refine x_aloadr hC dX2_set_24 (q := 26) rfl rfl ?_
  refine x_callV hC xv_X2_321 dX2_set_26 (q := 29) rfl rfl (m_X8_isFired h0 σ gF ch hc) (nn := (20, ch)) (kg_20 ch hc) rfl rfl (Nat.le_of_ble_eq_true rfl) ⟨(Nat.le_of_ble_eq_true rfl), (Nat.le_of_ble_eq_true rfl)⟩ ⟨(Nat.le_of_ble_eq_true rfl), (Nat.le_of_ble_eq_true rfl)⟩ (fun v g1 hp => ?_)
  obtain ⟨rfl, hg1⟩ := hp
  replace hg1 := hg1.symm
  subst hg1
  refine x_if_ne hC dX2_set_29 (q := 32) rfl (tgt := 59) rfl (fun h29 => ?_) (fun h29 => ?_)
  · exact absurd h29 (by rw [hraw]; decide)
  refine x_iload_n hC dX2_set_32 (q := 33) rfl rfl ?_
  refine x_i2l hC dX2_set_33 (q := 34) rfl ?_
  refine x_lconst hC dX2_set_34 (q := 35) rfl (v := 0) (by decide) ?_
  refine x_aloadr hC dX2_set_35 (q := 37) rfl rfl ?_
  refine x_get hC xf_X2_214_6 dX2_set_37 (q := 40) rfl (n := (21, kq)) (kg_21 kq hq) rfl ?_
  refine x_iconst hC dX2_set_40 (q := 41) rfl (v := (1)) (by decide) ?_
  refine x_isub hC dX2_set_41 (q := 42) rfl ?_
  refine x_i2l hC dX2_set_42 (q := 43) rfl ?_
  refine x_callS hC xv_X2_95 dX2_set_43 (q := 46) rfl rfl (m_isIn_t h0 _ (x := pl) (y := 0) (z := (kA σ 25 kq : Int) - 1) (nI64 (by have := hv.1.2.2.2.1 kq hq; omega)) rfl (nI64p (by have := hv.1.2.2.2.1 kq hq; omega)) (by omega)) rfl (Nat.le_of_ble_eq_true rfl) ⟨(Nat.le_of_ble_eq_true rfl), (Nat.le_of_ble_eq_true rfl)⟩ ⟨(Nat.le_of_ble_eq_true rfl), (Nat.le_of_ble_eq_true rfl)⟩ (fun v g1 hp => ?_)
  obtain ⟨rfl, hg1⟩ := hp
  replace hg1 := hg1.symm
  subst hg1
  refine x_if_eq hC dX2_set_46 (q := 49) rfl (tgt := 59) rfl (fun h46 => ?_) (fun h46 => ?_)
  · exact absurd h46 (by decide)
  refine x_aloadr hC dX2_set_49 (q := 51) rfl rfl ?_
  refine x_get hC xf_X2_324_6 dX2_set_51 (q := 54) rfl (n := (21, kq)) (kg_21 kq hq) rfl ?_
  refine x_iload_n hC dX2_set_54 (q := 55) rfl rfl ?_
  refine x_aald hC dX2_set_55 (q := 56) rfl (n := (22, kq)) (kg_22 kq hq) rfl (by have := hv.1.2.2.2.1 kq hq; omega) (by decide) rfl ?_
  refine x_ifnull hC dX2_set_56 (q := 59) rfl (tgt := 65) rfl (fun h56 => ?_) (fun a56 h56 => ?_)
  · exact absurd h56 (by simp [hn])
  refine x_aloadr_n hC dX2_set_59 (q := 60) rfl rfl ?_
  refine x_iconst hC dX2_set_60 (q := 61) rfl (v := (3)) (by decide) ?_
  refine x_callV hC xv_X2_89 dX2_set_61 (q := 64) rfl rfl (m_X2_refuses h0 σ gF 3 (by decide)) (nn := (0, 0)) rfl rfl rfl (Nat.le_of_ble_eq_true rfl) ⟨(Nat.le_of_ble_eq_true rfl), (Nat.le_of_ble_eq_true rfl)⟩ ⟨(Nat.le_of_ble_eq_true rfl), (Nat.le_of_ble_eq_true rfl)⟩ (fun v g1 hp => ?_)
  obtain ⟨rfl, hg1⟩ := hp
  replace hg1 := hg1.symm
  subst hg1
  exact x_zret hC hr rfl dX2_set_64 (Nat.le_of_ble_eq_true rfl) (Nat.le_of_ble_eq_true rfl) ⟨rfl, rfl⟩

set_option maxHeartbeats 4000000 in
set_option maxRecDepth 100000 in
theorem m_X2_set_nochild {l : Launch} {s0 : State} {D : va_G} (h0 : x0 l s0 D) (σ : KS) (gF : xG) (hv : KV σ) (x y z : Int32) (hx : x.toInt < 0 ∨ (kA σ 61 0 : Int) ≤ x.toInt) : xMet l s0 D yX2_set cX2_set 6 (some .boolean) (xr 22 25 340 1200) [.ref (kA σ 0 0), .int x, .int y, .int z] (kmix σ gF) (fun r g1 => r = some (.int 0) ∧ g1 = kmix (kVs σ 1 0 3 (kV σ 1 0 3 + 1)) gF) := by
  refine xMet.of h0 (by decide +kernel) rfl ?_
  intro p e s m args below meth c hC hr hnm
  refine x_aloadr_n hC dX2_set_0 (q := 1) rfl rfl ?_
  refine x_iload_n hC dX2_set_1 (q := 2) rfl rfl ?_
  refine x_callV hC xv_X2_313 dX2_set_2 (q := 5) rfl rfl (m_X2_childOf_out h0 σ gF hv.1 x hx) (nn := (0, 0)) rfl rfl rfl (Nat.le_of_ble_eq_true rfl) ⟨(Nat.le_of_ble_eq_true rfl), (Nat.le_of_ble_eq_true rfl)⟩ ⟨(Nat.le_of_ble_eq_true rfl), (Nat.le_of_ble_eq_true rfl)⟩ (fun v g1 hp => ?_)
  obtain ⟨rfl, hg1⟩ := hp
  replace hg1 := hg1.symm
  subst hg1
  refine x_astoren hC dX2_set_5 (q := 7) rfl rfl ?_
  refine x_aloadr_n hC dX2_set_7 (q := 8) rfl rfl ?_
  refine x_iload_n hC dX2_set_8 (q := 9) rfl rfl ?_
  refine x_callV hC xv_X2_317 dX2_set_9 (q := 12) rfl rfl (m_kilnOf_o h0 σ gF hv.1 y) (nn := (0, 0)) rfl rfl rfl (Nat.le_of_ble_eq_true rfl) ⟨(Nat.le_of_ble_eq_true rfl), (Nat.le_of_ble_eq_true rfl)⟩ ⟨(Nat.le_of_ble_eq_true rfl), (Nat.le_of_ble_eq_true rfl)⟩ (fun v g1 hp => ?_)
  obtain ⟨rfl, hg1⟩ := hp
  replace hg1 := hg1.symm
  subst hg1
  refine x_astore hC dX2_set_12 (q := 14) rfl rfl (va_rf_or _) ?_
  refine x_aload hC dX2_set_14 (q := 16) rfl rfl (Or.inl rfl) ?_
  refine x_ifnull_n hC dX2_set_16 (tgt := 59) rfl ?_
  refine x_aloadr_n hC dX2_set_59 (q := 60) rfl rfl ?_
  refine x_iconst hC dX2_set_60 (q := 61) rfl (v := (3)) (by decide) ?_
  refine x_callV hC xv_X2_89 dX2_set_61 (q := 64) rfl rfl (m_X2_refuses h0 σ gF 3 (by decide)) (nn := (0, 0)) rfl rfl rfl (Nat.le_of_ble_eq_true rfl) ⟨(Nat.le_of_ble_eq_true rfl), (Nat.le_of_ble_eq_true rfl)⟩ ⟨(Nat.le_of_ble_eq_true rfl), (Nat.le_of_ble_eq_true rfl)⟩ (fun v g1 hp => ?_)
  obtain ⟨rfl, hg1⟩ := hp
  replace hg1 := hg1.symm
  subst hg1
  exact x_zret hC hr rfl dX2_set_64 (Nat.le_of_ble_eq_true rfl) (Nat.le_of_ble_eq_true rfl) ⟨rfl, rfl⟩

set_option maxHeartbeats 4000000 in
set_option maxRecDepth 100000 in
theorem m_X2_set_nokiln {l : Launch} {s0 : State} {D : va_G} (h0 : x0 l s0 D) (σ : KS) (gF : xG) (hv : KV σ) (ch : Nat) (hc : ch < kA σ 61 0) (y z : Int32) (hy : y.toInt < 0 ∨ (kA σ 62 0 : Int) ≤ y.toInt) : xMet l s0 D yX2_set cX2_set 6 (some .boolean) (xr 22 25 340 1200) [.ref (kA σ 0 0), .int (nI ch), .int y, .int z] (kmix σ gF) (fun r g1 => r = some (.int 0) ∧ g1 = kmix (kVs σ 1 0 3 (kV σ 1 0 3 + 1)) gF) := by
  refine xMet.of h0 (by decide +kernel) rfl ?_
  intro p e s m args below meth c hC hr hnm
  refine x_aloadr_n hC dX2_set_0 (q := 1) rfl rfl ?_
  refine x_iload_n hC dX2_set_1 (q := 2) rfl rfl ?_
  refine x_callV hC xv_X2_313 dX2_set_2 (q := 5) rfl rfl (m_X2_childOf h0 σ gF hv.1 ch hc) (nn := (0, 0)) rfl rfl rfl (Nat.le_of_ble_eq_true rfl) ⟨(Nat.le_of_ble_eq_true rfl), (Nat.le_of_ble_eq_true rfl)⟩ ⟨(Nat.le_of_ble_eq_true rfl), (Nat.le_of_ble_eq_true rfl)⟩ (fun v g1 hp => ?_)
  obtain ⟨rfl, hg1⟩ := hp
  replace hg1 := hg1.symm
  subst hg1
  refine x_astorer hC dX2_set_5 (q := 7) rfl rfl ?_
  refine x_aloadr_n hC dX2_set_7 (q := 8) rfl rfl ?_
  refine x_iload_n hC dX2_set_8 (q := 9) rfl rfl ?_
  refine x_callV hC xv_X2_317 dX2_set_9 (q := 12) rfl rfl (m_X2_kilnOf_out h0 σ gF hv.1 y hy) (nn := (0, 0)) rfl rfl rfl (Nat.le_of_ble_eq_true rfl) ⟨(Nat.le_of_ble_eq_true rfl), (Nat.le_of_ble_eq_true rfl)⟩ ⟨(Nat.le_of_ble_eq_true rfl), (Nat.le_of_ble_eq_true rfl)⟩ (fun v g1 hp => ?_)
  obtain ⟨rfl, hg1⟩ := hp
  replace hg1 := hg1.symm
  subst hg1
  refine x_astoren hC dX2_set_12 (q := 14) rfl rfl ?_
  refine x_aloadr hC dX2_set_14 (q := 16) rfl rfl ?_
  refine x_ifnull_r hC dX2_set_16 (q := 19) rfl ?_
  refine x_aload hC dX2_set_19 (q := 21) rfl rfl (Or.inl rfl) ?_
  refine x_ifnull_n hC dX2_set_21 (tgt := 59) rfl ?_
  refine x_aloadr_n hC dX2_set_59 (q := 60) rfl rfl ?_
  refine x_iconst hC dX2_set_60 (q := 61) rfl (v := (3)) (by decide) ?_
  refine x_callV hC xv_X2_89 dX2_set_61 (q := 64) rfl rfl (m_X2_refuses h0 σ gF 3 (by decide)) (nn := (0, 0)) rfl rfl rfl (Nat.le_of_ble_eq_true rfl) ⟨(Nat.le_of_ble_eq_true rfl), (Nat.le_of_ble_eq_true rfl)⟩ ⟨(Nat.le_of_ble_eq_true rfl), (Nat.le_of_ble_eq_true rfl)⟩ (fun v g1 hp => ?_)
  obtain ⟨rfl, hg1⟩ := hp
  replace hg1 := hg1.symm
  subst hg1
  exact x_zret hC hr rfl dX2_set_64 (Nat.le_of_ble_eq_true rfl) (Nat.le_of_ble_eq_true rfl) ⟨rfl, rfl⟩

set_option maxHeartbeats 4000000 in
set_option maxRecDepth 100000 in
theorem m_X2_take_t {l : Launch} {s0 : State} {D : va_G} (h0 : x0 l s0 D) (σ : KS) (gF : xG) {d0 : Nat} (hv : KV σ) (hz : xE0 s0 gF d0) (h10 : kA σ 63 0 ≤ 10) (h48 : ∀ k, 48 ≤ k → k ≤ 52 → gF (k, 0) = none) (h54 : gF (54, 0) = none) (hac : KAc σ d0) (ch : Nat) (hc : ch < kA σ 61 0) (hn : kO σ 0 ch 0 ≠ none) : xMet l s0 D yX2_take cX2_take 3 (some .boolean) (xr 22 25 340 1200) [.ref (kA σ 0 0), .int (nI ch)] (kmix σ gF) (fun r g1 => ∃ σ1, r = some (.int 1) ∧ kKp σ σ1 d0 ∧ g1 = kmix (kGo σ1 ch) gF) := by
  refine xMet.of h0 (by decide +kernel) rfl ?_
  intro p e s m args below meth c hC hr hnm
  refine x_aloadr_n hC dX2_take_0 (q := 1) rfl rfl ?_
  refine x_iload_n hC dX2_take_1 (q := 2) rfl rfl ?_
  refine x_callV hC xv_X2_313 dX2_take_2 (q := 5) rfl rfl (m_X2_childOf h0 σ gF hv.1 ch hc) (nn := (0, 0)) rfl rfl rfl (Nat.le_of_ble_eq_true rfl) ⟨(Nat.le_of_ble_eq_true rfl), (Nat.le_of_ble_eq_true rfl)⟩ ⟨(Nat.le_of_ble_eq_true rfl), (Nat.le_of_ble_eq_true rfl)⟩ (fun v g1 hp => ?_)
  obtain ⟨rfl, hg1⟩ := hp
  replace hg1 := hg1.symm
  subst hg1
  refine x_astorer_n hC dX2_take_5 (q := 6) rfl rfl ?_
  refine x_aloadr_n hC dX2_take_6 (q := 7) rfl rfl ?_
  refine x_ifnull_r hC dX2_take_7 (q := 10) rfl ?_
  refine x_aloadr_n hC dX2_take_10 (q := 11) rfl rfl ?_
  refine x_get hC xf_X2_335_5 dX2_take_11 (q := 14) rfl (n := (20, ch)) (kg_20 ch hc) rfl ?_
  refine x_ifnonnull hC dX2_take_14 (q := 17) rfl (tgt := 23) rfl (fun a14 h14 => ?_) (fun h14 => ?_)
  · refine x_aloadr_n hC dX2_take_23 (q := 24) rfl rfl ?_
    refine x_callV hC xv_X2_293 dX2_take_24 (q := 27) rfl rfl (m_X2_keeps h0 σ gF hv.1 hz h10 h48 h54 hac) (nn := (0, 0)) rfl rfl rfl (Nat.le_of_ble_eq_true rfl) ⟨(Nat.le_of_ble_eq_true rfl), (Nat.le_of_ble_eq_true rfl)⟩ ⟨(Nat.le_of_ble_eq_true rfl), (Nat.le_of_ble_eq_true rfl)⟩ (fun v g1 hp => ?_)
    obtain ⟨σ1, rfl, hkp, hg1⟩ := hp
    replace hg1 := hg1.symm
    subst hg1
    have hv1 := hkp.KV hv
    have hc1 : ch < kA σ1 61 0 := (by rw [hkp.A rfl]; exact hc)
    rw [(show kA σ 20 ch = kA σ1 20 ch from (hkp.A rfl ch).symm)]
    refine x_aloadr_n hC dX2_take_27 (q := 28) rfl rfl ?_
    refine x_callV hC xv_X2_328 dX2_take_28 (q := 31) rfl rfl (m_X8_goesOut h0 σ1 gF hv1 ch hc1) (nn := (20, ch)) (kg_20 (σ := σ1) ch hc1) rfl rfl (Nat.le_of_ble_eq_true rfl) ⟨(Nat.le_of_ble_eq_true rfl), (Nat.le_of_ble_eq_true rfl)⟩ ⟨(Nat.le_of_ble_eq_true rfl), (Nat.le_of_ble_eq_true rfl)⟩ (fun v g1 hp => ?_)
    obtain ⟨rfl, hg1⟩ := hp
    replace hg1 := hg1.symm
    subst hg1
    refine x_iconst hC dX2_take_31 (q := 32) rfl (v := (1)) (by decide) ?_
    exact x_zret hC hr rfl dX2_take_32 (Nat.le_of_ble_eq_true rfl) (Nat.le_of_ble_eq_true rfl) ⟨σ1, rfl, hkp, rfl⟩
  · exact absurd (by cases hk : kO σ 0 ch 0 with | none => rfl | some w => rw [hk] at h14; cases h14) hn

set_option maxHeartbeats 4000000 in
set_option maxRecDepth 100000 in
theorem m_X2_take_n {l : Launch} {s0 : State} {D : va_G} (h0 : x0 l s0 D) (σ : KS) (gF : xG) (hv : KV σ) (ch : Nat) (hc : ch < kA σ 61 0) (hn : kO σ 0 ch 0 = none) : xMet l s0 D yX2_take cX2_take 3 (some .boolean) (xr 22 25 340 1200) [.ref (kA σ 0 0), .int (nI ch)] (kmix σ gF) (fun r g1 => r = some (.int 0) ∧ g1 = kmix (kVs σ 1 0 3 (kV σ 1 0 3 + 1)) gF) := by
  refine xMet.of h0 (by decide +kernel) rfl ?_
  intro p e s m args below meth c hC hr hnm
  refine x_aloadr_n hC dX2_take_0 (q := 1) rfl rfl ?_
  refine x_iload_n hC dX2_take_1 (q := 2) rfl rfl ?_
  refine x_callV hC xv_X2_313 dX2_take_2 (q := 5) rfl rfl (m_X2_childOf h0 σ gF hv.1 ch hc) (nn := (0, 0)) rfl rfl rfl (Nat.le_of_ble_eq_true rfl) ⟨(Nat.le_of_ble_eq_true rfl), (Nat.le_of_ble_eq_true rfl)⟩ ⟨(Nat.le_of_ble_eq_true rfl), (Nat.le_of_ble_eq_true rfl)⟩ (fun v g1 hp => ?_)
  obtain ⟨rfl, hg1⟩ := hp
  replace hg1 := hg1.symm
  subst hg1
  refine x_astorer_n hC dX2_take_5 (q := 6) rfl rfl ?_
  refine x_aloadr_n hC dX2_take_6 (q := 7) rfl rfl ?_
  refine x_ifnull_r hC dX2_take_7 (q := 10) rfl ?_
  refine x_aloadr_n hC dX2_take_10 (q := 11) rfl rfl ?_
  refine x_get hC xf_X2_335_5 dX2_take_11 (q := 14) rfl (n := (20, ch)) (kg_20 ch hc) rfl ?_
  refine x_ifnonnull hC dX2_take_14 (q := 17) rfl (tgt := 23) rfl (fun a14 h14 => ?_) (fun h14 => ?_)
  · exact absurd h14 (by simp [hn])
  refine x_aloadr_n hC dX2_take_17 (q := 18) rfl rfl ?_
  refine x_iconst hC dX2_take_18 (q := 19) rfl (v := (3)) (by decide) ?_
  refine x_callV hC xv_X2_89 dX2_take_19 (q := 22) rfl rfl (m_X2_refuses h0 σ gF 3 (by decide)) (nn := (0, 0)) rfl rfl rfl (Nat.le_of_ble_eq_true rfl) ⟨(Nat.le_of_ble_eq_true rfl), (Nat.le_of_ble_eq_true rfl)⟩ ⟨(Nat.le_of_ble_eq_true rfl), (Nat.le_of_ble_eq_true rfl)⟩ (fun v g1 hp => ?_)
  obtain ⟨rfl, hg1⟩ := hp
  replace hg1 := hg1.symm
  subst hg1
  exact x_zret hC hr rfl dX2_take_22 (Nat.le_of_ble_eq_true rfl) (Nat.le_of_ble_eq_true rfl) ⟨rfl, rfl⟩

set_option maxHeartbeats 4000000 in
set_option maxRecDepth 100000 in
theorem m_X2_take_nochild {l : Launch} {s0 : State} {D : va_G} (h0 : x0 l s0 D) (σ : KS) (gF : xG) (hv : KV σ) (x : Int32) (hx : x.toInt < 0 ∨ (kA σ 61 0 : Int) ≤ x.toInt) : xMet l s0 D yX2_take cX2_take 3 (some .boolean) (xr 22 25 340 1200) [.ref (kA σ 0 0), .int x] (kmix σ gF) (fun r g1 => r = some (.int 0) ∧ g1 = kmix (kVs σ 1 0 3 (kV σ 1 0 3 + 1)) gF) := by
  refine xMet.of h0 (by decide +kernel) rfl ?_
  intro p e s m args below meth c hC hr hnm
  refine x_aloadr_n hC dX2_take_0 (q := 1) rfl rfl ?_
  refine x_iload_n hC dX2_take_1 (q := 2) rfl rfl ?_
  refine x_callV hC xv_X2_313 dX2_take_2 (q := 5) rfl rfl (m_X2_childOf_out h0 σ gF hv.1 x hx) (nn := (0, 0)) rfl rfl rfl (Nat.le_of_ble_eq_true rfl) ⟨(Nat.le_of_ble_eq_true rfl), (Nat.le_of_ble_eq_true rfl)⟩ ⟨(Nat.le_of_ble_eq_true rfl), (Nat.le_of_ble_eq_true rfl)⟩ (fun v g1 hp => ?_)
  obtain ⟨rfl, hg1⟩ := hp
  replace hg1 := hg1.symm
  subst hg1
  refine x_astoren_n hC dX2_take_5 (q := 6) rfl rfl ?_
  refine x_aload_n hC dX2_take_6 (q := 7) rfl rfl (Or.inl rfl) ?_
  refine x_ifnull_n hC dX2_take_7 (tgt := 17) rfl ?_
  refine x_aloadr_n hC dX2_take_17 (q := 18) rfl rfl ?_
  refine x_iconst hC dX2_take_18 (q := 19) rfl (v := (3)) (by decide) ?_
  refine x_callV hC xv_X2_89 dX2_take_19 (q := 22) rfl rfl (m_X2_refuses h0 σ gF 3 (by decide)) (nn := (0, 0)) rfl rfl rfl (Nat.le_of_ble_eq_true rfl) ⟨(Nat.le_of_ble_eq_true rfl), (Nat.le_of_ble_eq_true rfl)⟩ ⟨(Nat.le_of_ble_eq_true rfl), (Nat.le_of_ble_eq_true rfl)⟩ (fun v g1 hp => ?_)
  obtain ⟨rfl, hg1⟩ := hp
  replace hg1 := hg1.symm
  subst hg1
  exact x_zret hC hr rfl dX2_take_22 (Nat.le_of_ble_eq_true rfl) (Nat.le_of_ble_eq_true rfl) ⟨rfl, rfl⟩

set_option maxHeartbeats 4000000 in
set_option maxRecDepth 100000 in
theorem m_X2_light_t {l : Launch} {s0 : State} {D : va_G} (h0 : x0 l s0 D) (σ : KS) (gF : xG) {d0 : Nat} (hv : KV σ) (hz : xE0 s0 gF d0) (h10 : kA σ 63 0 ≤ 10) (h48 : ∀ k, 48 ≤ k → k ≤ 52 → gF (k, 0) = none) (h54 : gF (54, 0) = none) (hac : KAc σ d0) (kq : Nat) (hq : kq < kA σ 62 0) (z : Int) (hb : iB z) (hz1 : -1 ≤ z ∧ z ≤ 20) (hh : iB (kI σ 41 kq)) (hn : kI σ 41 kq ≠ z) : xMet l s0 D yX2_light cX2_light 4 (some .boolean) (xr 22 25 340 1200) [.ref (kA σ 0 0), .int (nI kq), .int (iI z)] (kmix σ gF) (fun r g1 => ∃ σ1, r = some (.int 1) ∧ kKp σ σ1 d0 ∧ g1 = kmix (kIs σ1 41 kq z) gF) := by
  refine xMet.of h0 (by decide +kernel) rfl ?_
  intro p e s m args below meth c hC hr hnm
  refine x_aloadr_n hC dX2_light_0 (q := 1) rfl rfl ?_
  refine x_iload_n hC dX2_light_1 (q := 2) rfl rfl ?_
  refine x_callV hC xv_X2_317 dX2_light_2 (q := 5) rfl rfl (m_X2_kilnOf h0 σ gF hv.1 kq hq) (nn := (0, 0)) rfl rfl rfl (Nat.le_of_ble_eq_true rfl) ⟨(Nat.le_of_ble_eq_true rfl), (Nat.le_of_ble_eq_true rfl)⟩ ⟨(Nat.le_of_ble_eq_true rfl), (Nat.le_of_ble_eq_true rfl)⟩ (fun v g1 hp => ?_)
  obtain ⟨rfl, hg1⟩ := hp
  replace hg1 := hg1.symm
  subst hg1
  refine x_astorer_n hC dX2_light_5 (q := 6) rfl rfl ?_
  refine x_aloadr_n hC dX2_light_6 (q := 7) rfl rfl ?_
  refine x_ifnull_r hC dX2_light_7 (q := 10) rfl ?_
  refine x_iload_n hC dX2_light_10 (q := 11) rfl rfl ?_
  refine x_i2l hC dX2_light_11 (q := 12) rfl ?_
  refine x_ldc2_w hC dX2_light_12 (q := 15) rfl q2075 ?_
  refine x_ldc2_w hC dX2_light_15 (q := 18) rfl q1539 ?_
  refine x_callS hC xv_X2_95 dX2_light_18 (q := 21) rfl rfl (m_isIn_t h0 _ (x := z) (y := -1) (z := 20) (iI64 hb) rfl rfl (by omega)) rfl (Nat.le_of_ble_eq_true rfl) ⟨(Nat.le_of_ble_eq_true rfl), (Nat.le_of_ble_eq_true rfl)⟩ ⟨(Nat.le_of_ble_eq_true rfl), (Nat.le_of_ble_eq_true rfl)⟩ (fun v g1 hp => ?_)
  obtain ⟨rfl, hg1⟩ := hp
  replace hg1 := hg1.symm
  subst hg1
  refine x_if_eq hC dX2_light_21 (q := 24) rfl (tgt := 32) rfl (fun h21 => ?_) (fun h21 => ?_)
  · exact absurd h21 (by decide)
  refine x_aloadr_n hC dX2_light_24 (q := 25) rfl rfl ?_
  refine x_get hC xf_X2_211_6 dX2_light_25 (q := 28) rfl (n := (21, kq)) (kg_21 kq hq) rfl ?_
  refine x_iload_n hC dX2_light_28 (q := 29) rfl rfl ?_
  refine x_icmp_ne hC dX2_light_29 (q := 32) rfl (tgt := 38) rfl (fun h29 => ?_) (fun h29 => ?_)
  · refine x_aloadr_n hC dX2_light_38 (q := 39) rfl rfl ?_
    refine x_callV hC xv_X2_293 dX2_light_39 (q := 42) rfl rfl (m_X2_keeps h0 σ gF hv.1 hz h10 h48 h54 hac) (nn := (0, 0)) rfl rfl rfl (Nat.le_of_ble_eq_true rfl) ⟨(Nat.le_of_ble_eq_true rfl), (Nat.le_of_ble_eq_true rfl)⟩ ⟨(Nat.le_of_ble_eq_true rfl), (Nat.le_of_ble_eq_true rfl)⟩ (fun v g1 hp => ?_)
    obtain ⟨σ1, rfl, hkp, hg1⟩ := hp
    replace hg1 := hg1.symm
    subst hg1
    have hv1 := hkp.KV hv
    have hq1 : kq < kA σ1 62 0 := (by rw [hkp.A rfl]; exact hq)
    rw [(show kA σ 21 kq = kA σ1 21 kq from (hkp.A rfl kq).symm)]
    refine x_aloadr_n hC dX2_light_42 (q := 43) rfl rfl ?_
    refine x_iload_n hC dX2_light_43 (q := 44) rfl rfl ?_
    refine x_put hC (n := (21, kq)) xf_X2_211_6 xd_6 rfl dX2_light_44 (q := 47) rfl (kg_21 (σ := σ1) kq hq1) rfl rfl rfl ?_
    refine x_geq (kf_heat (z := z) rfl hq1) ?_
    refine x_iconst hC dX2_light_47 (q := 48) rfl (v := (1)) (by decide) ?_
    exact x_zret hC hr rfl dX2_light_48 (Nat.le_of_ble_eq_true rfl) (Nat.le_of_ble_eq_true rfl) ⟨σ1, rfl, hkp, rfl⟩
  · exact absurd ((iI_eq hh hb).mp h29) hn

set_option maxHeartbeats 4000000 in
set_option maxRecDepth 100000 in
theorem m_X2_light_n {l : Launch} {s0 : State} {D : va_G} (h0 : x0 l s0 D) (σ : KS) (gF : xG) (hv : KV σ) (kq : Nat) (hq : kq < kA σ 62 0) (z : Int) (hb : iB z) (hz1 : -1 ≤ z ∧ z ≤ 20) (hh : iB (kI σ 41 kq)) (hn : kI σ 41 kq = z) : xMet l s0 D yX2_light cX2_light 4 (some .boolean) (xr 22 25 340 1200) [.ref (kA σ 0 0), .int (nI kq), .int (iI z)] (kmix σ gF) (fun r g1 => r = some (.int 0) ∧ g1 = kmix (kVs σ 1 0 3 (kV σ 1 0 3 + 1)) gF) := by
  refine xMet.of h0 (by decide +kernel) rfl ?_
  intro p e s m args below meth c hC hr hnm
  refine x_aloadr_n hC dX2_light_0 (q := 1) rfl rfl ?_
  refine x_iload_n hC dX2_light_1 (q := 2) rfl rfl ?_
  refine x_callV hC xv_X2_317 dX2_light_2 (q := 5) rfl rfl (m_X2_kilnOf h0 σ gF hv.1 kq hq) (nn := (0, 0)) rfl rfl rfl (Nat.le_of_ble_eq_true rfl) ⟨(Nat.le_of_ble_eq_true rfl), (Nat.le_of_ble_eq_true rfl)⟩ ⟨(Nat.le_of_ble_eq_true rfl), (Nat.le_of_ble_eq_true rfl)⟩ (fun v g1 hp => ?_)
  obtain ⟨rfl, hg1⟩ := hp
  replace hg1 := hg1.symm
  subst hg1
  refine x_astorer_n hC dX2_light_5 (q := 6) rfl rfl ?_
  refine x_aloadr_n hC dX2_light_6 (q := 7) rfl rfl ?_
  refine x_ifnull_r hC dX2_light_7 (q := 10) rfl ?_
  refine x_iload_n hC dX2_light_10 (q := 11) rfl rfl ?_
  refine x_i2l hC dX2_light_11 (q := 12) rfl ?_
  refine x_ldc2_w hC dX2_light_12 (q := 15) rfl q2075 ?_
  refine x_ldc2_w hC dX2_light_15 (q := 18) rfl q1539 ?_
  refine x_callS hC xv_X2_95 dX2_light_18 (q := 21) rfl rfl (m_isIn_t h0 _ (x := z) (y := -1) (z := 20) (iI64 hb) rfl rfl (by omega)) rfl (Nat.le_of_ble_eq_true rfl) ⟨(Nat.le_of_ble_eq_true rfl), (Nat.le_of_ble_eq_true rfl)⟩ ⟨(Nat.le_of_ble_eq_true rfl), (Nat.le_of_ble_eq_true rfl)⟩ (fun v g1 hp => ?_)
  obtain ⟨rfl, hg1⟩ := hp
  replace hg1 := hg1.symm
  subst hg1
  refine x_if_eq hC dX2_light_21 (q := 24) rfl (tgt := 32) rfl (fun h21 => ?_) (fun h21 => ?_)
  · exact absurd h21 (by decide)
  refine x_aloadr_n hC dX2_light_24 (q := 25) rfl rfl ?_
  refine x_get hC xf_X2_211_6 dX2_light_25 (q := 28) rfl (n := (21, kq)) (kg_21 kq hq) rfl ?_
  refine x_iload_n hC dX2_light_28 (q := 29) rfl rfl ?_
  refine x_icmp_ne hC dX2_light_29 (q := 32) rfl (tgt := 38) rfl (fun h29 => ?_) (fun h29 => ?_)
  · exact absurd (by rw [hn]) h29
  refine x_aloadr_n hC dX2_light_32 (q := 33) rfl rfl ?_
  refine x_iconst hC dX2_light_33 (q := 34) rfl (v := (3)) (by decide) ?_
  refine x_callV hC xv_X2_89 dX2_light_34 (q := 37) rfl rfl (m_X2_refuses h0 σ gF 3 (by decide)) (nn := (0, 0)) rfl rfl rfl (Nat.le_of_ble_eq_true rfl) ⟨(Nat.le_of_ble_eq_true rfl), (Nat.le_of_ble_eq_true rfl)⟩ ⟨(Nat.le_of_ble_eq_true rfl), (Nat.le_of_ble_eq_true rfl)⟩ (fun v g1 hp => ?_)
  obtain ⟨rfl, hg1⟩ := hp
  replace hg1 := hg1.symm
  subst hg1
  exact x_zret hC hr rfl dX2_light_37 (Nat.le_of_ble_eq_true rfl) (Nat.le_of_ble_eq_true rfl) ⟨rfl, rfl⟩

set_option maxHeartbeats 4000000 in
set_option maxRecDepth 100000 in
theorem m_X2_light_nokiln {l : Launch} {s0 : State} {D : va_G} (h0 : x0 l s0 D) (σ : KS) (gF : xG) (hv : KV σ) (x y : Int32) (hx : x.toInt < 0 ∨ (kA σ 62 0 : Int) ≤ x.toInt) : xMet l s0 D yX2_light cX2_light 4 (some .boolean) (xr 22 25 340 1200) [.ref (kA σ 0 0), .int x, .int y] (kmix σ gF) (fun r g1 => r = some (.int 0) ∧ g1 = kmix (kVs σ 1 0 3 (kV σ 1 0 3 + 1)) gF) := by
  refine xMet.of h0 (by decide +kernel) rfl ?_
  intro p e s m args below meth c hC hr hnm
  refine x_aloadr_n hC dX2_light_0 (q := 1) rfl rfl ?_
  refine x_iload_n hC dX2_light_1 (q := 2) rfl rfl ?_
  refine x_callV hC xv_X2_317 dX2_light_2 (q := 5) rfl rfl (m_X2_kilnOf_out h0 σ gF hv.1 x hx) (nn := (0, 0)) rfl rfl rfl (Nat.le_of_ble_eq_true rfl) ⟨(Nat.le_of_ble_eq_true rfl), (Nat.le_of_ble_eq_true rfl)⟩ ⟨(Nat.le_of_ble_eq_true rfl), (Nat.le_of_ble_eq_true rfl)⟩ (fun v g1 hp => ?_)
  obtain ⟨rfl, hg1⟩ := hp
  replace hg1 := hg1.symm
  subst hg1
  refine x_astoren_n hC dX2_light_5 (q := 6) rfl rfl ?_
  refine x_aload_n hC dX2_light_6 (q := 7) rfl rfl (Or.inl rfl) ?_
  refine x_ifnull_n hC dX2_light_7 (tgt := 32) rfl ?_
  refine x_aloadr_n hC dX2_light_32 (q := 33) rfl rfl ?_
  refine x_iconst hC dX2_light_33 (q := 34) rfl (v := (3)) (by decide) ?_
  refine x_callV hC xv_X2_89 dX2_light_34 (q := 37) rfl rfl (m_X2_refuses h0 σ gF 3 (by decide)) (nn := (0, 0)) rfl rfl rfl (Nat.le_of_ble_eq_true rfl) ⟨(Nat.le_of_ble_eq_true rfl), (Nat.le_of_ble_eq_true rfl)⟩ ⟨(Nat.le_of_ble_eq_true rfl), (Nat.le_of_ble_eq_true rfl)⟩ (fun v g1 hp => ?_)
  obtain ⟨rfl, hg1⟩ := hp
  replace hg1 := hg1.symm
  subst hg1
  exact x_zret hC hr rfl dX2_light_37 (Nat.le_of_ble_eq_true rfl) (Nat.le_of_ble_eq_true rfl) ⟨rfl, rfl⟩
