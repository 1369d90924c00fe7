set_option maxHeartbeats 4000000 in
set_option maxRecDepth 100000 in
theorem m_X2_child_0 {l : Launch} {s0 : State} {D : va_G} (h0 : x0 l s0 D) (σ : KS) (gF : xG) (hw : KW σ) (ch : Nat) (hc : ch < kA σ 61 0) : xMet l s0 D yX2_child cX2_child 4 (some .int) (xr 5 0 0 106) [.ref (kA σ 0 0), .int (nI ch), .int 0] (kmix σ gF) (fun r g1 => r = some (.int (iI (kI σ 31 ch))) ∧ g1 = kmix σ gF) := by
  refine xMet.of h0 (by decide +kernel) rfl ?_
  intro p e s m args below meth c hC hr hnm
  refine x_aloadr_n hC dX2_child_0 (q := 1) rfl rfl ?_
  refine x_iload_n hC dX2_child_1 (q := 2) rfl rfl ?_
  refine x_callV hC xv_X2_313 dX2_child_2 (q := 5) rfl rfl (m_X2_childOf h0 σ gF hw ch hc) (nn := (0, 0)) rfl rfl rfl (Nat.le_of_ble_eq_true rfl) ⟨(Nat.le_of_ble_eq_true rfl), (Nat.le_of_ble_eq_true rfl)⟩ ⟨(Nat.le_of_ble_eq_true rfl), (Nat.le_of_ble_eq_true rfl)⟩ (fun v g1 hp => ?_)
  obtain ⟨rfl, hg1⟩ := hp
  replace hg1 := hg1.symm
  subst hg1
  refine x_astorer_n hC dX2_child_5 (q := 6) rfl rfl ?_
  refine x_aloadr_n hC dX2_child_6 (q := 7) rfl rfl ?_
  refine x_ifnonnull_r hC dX2_child_7 (tgt := 12) rfl ?_
  refine x_iload_n hC dX2_child_12 (q := 13) rfl rfl ?_
  refine x_tableIn hC dX2_child_13 (by decide) (by decide) (off := 43) (by decide) (tgt := 56) rfl ?_
  refine x_aloadr_n hC dX2_child_56 (q := 57) rfl rfl ?_
  refine x_get hC xf_X2_164_5 dX2_child_57 (q := 60) rfl (n := (20, ch)) (kg_20 ch hc) rfl ?_
  exact x_iret hC hr dX2_child_60 (Nat.le_of_ble_eq_true rfl) (Nat.le_of_ble_eq_true rfl) ⟨rfl, rfl⟩

set_option maxHeartbeats 4000000 in
set_option maxRecDepth 100000 in
theorem m_X2_child_1 {l : Launch} {s0 : State} {D : va_G} (h0 : x0 l s0 D) (σ : KS) (gF : xG) (hw : KW σ) (ch : Nat) (hc : ch < kA σ 61 0) : xMet l s0 D yX2_child cX2_child 4 (some .int) (xr 5 0 0 106) [.ref (kA σ 0 0), .int (nI ch), .int 1] (kmix σ gF) (fun r g1 => r = some (.int (iI (kI σ 32 ch))) ∧ g1 = kmix σ gF) := by
  refine xMet.of h0 (by decide +kernel) rfl ?_
  intro p e s m args below meth c hC hr hnm
  refine x_aloadr_n hC dX2_child_0 (q := 1) rfl rfl ?_
  refine x_iload_n hC dX2_child_1 (q := 2) rfl rfl ?_
  refine x_callV hC xv_X2_313 dX2_child_2 (q := 5) rfl rfl (m_X2_childOf h0 σ gF hw ch hc) (nn := (0, 0)) rfl rfl rfl (Nat.le_of_ble_eq_true rfl) ⟨(Nat.le_of_ble_eq_true rfl), (Nat.le_of_ble_eq_true rfl)⟩ ⟨(Nat.le_of_ble_eq_true rfl), (Nat.le_of_ble_eq_true rfl)⟩ (fun v g1 hp => ?_)
  obtain ⟨rfl, hg1⟩ := hp
  replace hg1 := hg1.symm
  subst hg1
  refine x_astorer_n hC dX2_child_5 (q := 6) rfl rfl ?_
  refine x_aloadr_n hC dX2_child_6 (q := 7) rfl rfl ?_
  refine x_ifnonnull_r hC dX2_child_7 (tgt := 12) rfl ?_
  refine x_iload_n hC dX2_child_12 (q := 13) rfl rfl ?_
  refine x_tableIn hC dX2_child_13 (by decide) (by decide) (off := 48) (by decide) (tgt := 61) rfl ?_
  refine x_aloadr_n hC dX2_child_61 (q := 62) rfl rfl ?_
  refine x_get hC xf_X2_167_5 dX2_child_62 (q := 65) rfl (n := (20, ch)) (kg_20 ch hc) rfl ?_
  exact x_iret hC hr dX2_child_65 (Nat.le_of_ble_eq_true rfl) (Nat.le_of_ble_eq_true rfl) ⟨rfl, rfl⟩

set_option maxHeartbeats 4000000 in
set_option maxRecDepth 100000 in
theorem m_X2_child_2 {l : Launch} {s0 : State} {D : va_G} (h0 : x0 l s0 D) (σ : KS) (gF : xG) (hw : KW σ) (ch : Nat) (hc : ch < kA σ 61 0) : xMet l s0 D yX2_child cX2_child 4 (some .int) (xr 5 0 0 106) [.ref (kA σ 0 0), .int (nI ch), .int 2] (kmix σ gF) (fun r g1 => r = some (.int (kKil σ ch)) ∧ g1 = kmix σ gF) := by
  refine xMet.of h0 (by decide +kernel) rfl ?_
  intro p e s m args below meth c hC hr hnm
  refine x_aloadr_n hC dX2_child_0 (q := 1) rfl rfl ?_
  refine x_iload_n hC dX2_child_1 (q := 2) rfl rfl ?_
  refine x_callV hC xv_X2_313 dX2_child_2 (q := 5) rfl rfl (m_X2_childOf h0 σ gF hw ch hc) (nn := (0, 0)) rfl rfl rfl (Nat.le_of_ble_eq_true rfl) ⟨(Nat.le_of_ble_eq_true rfl), (Nat.le_of_ble_eq_true rfl)⟩ ⟨(Nat.le_of_ble_eq_true rfl), (Nat.le_of_ble_eq_true rfl)⟩ (fun v g1 hp => ?_)
  obtain ⟨rfl, hg1⟩ := hp
  replace hg1 := hg1.symm
  subst hg1
  refine x_astorer_n hC dX2_child_5 (q := 6) rfl rfl ?_
  refine x_aloadr_n hC dX2_child_6 (q := 7) rfl rfl ?_
  refine x_ifnonnull_r hC dX2_child_7 (tgt := 12) rfl ?_
  refine x_iload_n hC dX2_child_12 (q := 13) rfl rfl ?_
  refine x_tableIn hC dX2_child_13 (by decide) (by decide) (off := 53) (by decide) (tgt := 66) rfl ?_
  refine x_aloadr_n hC dX2_child_66 (q := 67) rfl rfl ?_
  refine x_callV hC xv_X2_368 dX2_child_67 (q := 70) rfl rfl (m_X8_kiln h0 σ gF hw ch hc) (nn := (20, ch)) (kg_20 ch hc) rfl rfl (Nat.le_of_ble_eq_true rfl) ⟨(Nat.le_of_ble_eq_true rfl), (Nat.le_of_ble_eq_true rfl)⟩ ⟨(Nat.le_of_ble_eq_true rfl), (Nat.le_of_ble_eq_true rfl)⟩ (fun v g1 hp => ?_)
  obtain ⟨rfl, hg1⟩ := hp
  replace hg1 := hg1.symm
  subst hg1
  exact x_iret hC hr dX2_child_70 (Nat.le_of_ble_eq_true rfl) (Nat.le_of_ble_eq_true rfl) ⟨rfl, rfl⟩

set_option maxHeartbeats 4000000 in
set_option maxRecDepth 100000 in
theorem m_X2_child_3 {l : Launch} {s0 : State} {D : va_G} (h0 : x0 l s0 D) (σ : KS) (gF : xG) (hw : KW σ) (ch : Nat) (hc : ch < kA σ 61 0) : xMet l s0 D yX2_child cX2_child 4 (some .int) (xr 5 0 0 106) [.ref (kA σ 0 0), .int (nI ch), .int 3] (kmix σ gF) (fun r g1 => r = some (.int (iI (kI σ 33 ch))) ∧ g1 = kmix σ gF) := by
  refine xMet.of h0 (by decide +kernel) rfl ?_
  intro p e s m args below meth c hC hr hnm
  refine x_aloadr_n hC dX2_child_0 (q := 1) rfl rfl ?_
  refine x_iload_n hC dX2_child_1 (q := 2) rfl rfl ?_
  refine x_callV hC xv_X2_313 dX2_child_2 (q := 5) rfl rfl (m_X2_childOf h0 σ gF hw ch hc) (nn := (0, 0)) rfl rfl rfl (Nat.le_of_ble_eq_true rfl) ⟨(Nat.le_of_ble_eq_true rfl), (Nat.le_of_ble_eq_true rfl)⟩ ⟨(Nat.le_of_ble_eq_true rfl), (Nat.le_of_ble_eq_true rfl)⟩ (fun v g1 hp => ?_)
  obtain ⟨rfl, hg1⟩ := hp
  replace hg1 := hg1.symm
  subst hg1
  refine x_astorer_n hC dX2_child_5 (q := 6) rfl rfl ?_
  refine x_aloadr_n hC dX2_child_6 (q := 7) rfl rfl ?_
  refine x_ifnonnull_r hC dX2_child_7 (tgt := 12) rfl ?_
  refine x_iload_n hC dX2_child_12 (q := 13) rfl rfl ?_
  refine x_tableIn hC dX2_child_13 (by decide) (by decide) (off := 58) (by decide) (tgt := 71) rfl ?_
  refine x_aloadr_n hC dX2_child_71 (q := 72) rfl rfl ?_
  refine x_get hC xf_X2_370_5 dX2_child_72 (q := 75) rfl (n := (20, ch)) (kg_20 ch hc) rfl ?_
  exact x_iret hC hr dX2_child_75 (Nat.le_of_ble_eq_true rfl) (Nat.le_of_ble_eq_true rfl) ⟨rfl, rfl⟩

set_option maxHeartbeats 4000000 in
set_option maxRecDepth 100000 in
theorem m_X2_child_4 {l : Launch} {s0 : State} {D : va_G} (h0 : x0 l s0 D) (σ : KS) (gF : xG) (hw : KW σ) (ch : Nat) (hc : ch < kA σ 61 0) : xMet l s0 D yX2_child cX2_child 4 (some .int) (xr 5 0 0 106) [.ref (kA σ 0 0), .int (nI ch), .int 4] (kmix σ gF) (fun r g1 => r = some (.int (if iI (kI σ 34 ch) = -1 then 0 else 1)) ∧ g1 = kmix σ gF) := by
  refine xMet.of h0 (by decide +kernel) rfl ?_
  intro p e s m args below meth c hC hr hnm
  refine x_aloadr_n hC dX2_child_0 (q := 1) rfl rfl ?_
  refine x_iload_n hC dX2_child_1 (q := 2) rfl rfl ?_
  refine x_callV hC xv_X2_313 dX2_child_2 (q := 5) rfl rfl (m_X2_childOf h0 σ gF hw ch hc) (nn := (0, 0)) rfl rfl rfl (Nat.le_of_ble_eq_true rfl) ⟨(Nat.le_of_ble_eq_true rfl), (Nat.le_of_ble_eq_true rfl)⟩ ⟨(Nat.le_of_ble_eq_true rfl), (Nat.le_of_ble_eq_true rfl)⟩ (fun v g1 hp => ?_)
  obtain ⟨rfl, hg1⟩ := hp
  replace hg1 := hg1.symm
  subst hg1
  refine x_astorer_n hC dX2_child_5 (q := 6) rfl rfl ?_
  refine x_aloadr_n hC dX2_child_6 (q := 7) rfl rfl ?_
  refine x_ifnonnull_r hC dX2_child_7 (tgt := 12) rfl ?_
  refine x_iload_n hC dX2_child_12 (q := 13) rfl rfl ?_
  refine x_tableIn hC dX2_child_13 (by decide) (by decide) (off := 63) (by decide) (tgt := 76) rfl ?_
  refine x_aloadr_n hC dX2_child_76 (q := 77) rfl rfl ?_
  refine x_callV hC xv_X2_321 dX2_child_77 (q := 80) rfl rfl (m_X8_isFired h0 σ gF ch hc) (nn := (20, ch)) (kg_20 ch hc) rfl rfl (Nat.le_of_ble_eq_true rfl) ⟨(Nat.le_of_ble_eq_true rfl), (Nat.le_of_ble_eq_true rfl)⟩ ⟨(Nat.le_of_ble_eq_true rfl), (Nat.le_of_ble_eq_true rfl)⟩ (fun v g1 hp => ?_)
  obtain ⟨rfl, hg1⟩ := hp
  replace hg1 := hg1.symm
  subst hg1
  refine x_if_eq hC dX2_child_80 (q := 83) rfl (tgt := 87) rfl (fun h80 => ?_) (fun h80 => ?_)
  · refine x_iconst hC dX2_child_87 (q := 88) rfl (v := (0)) (by decide) ?_
    exact x_iret hC hr dX2_child_88 (Nat.le_of_ble_eq_true rfl) (Nat.le_of_ble_eq_true rfl) ⟨by split at h80 <;> simp_all, rfl⟩
  refine x_iconst hC dX2_child_83 (q := 84) rfl (v := (1)) (by decide) ?_
  refine x_goto hC dX2_child_84 (tgt := 88) rfl ?_
  exact x_iret hC hr dX2_child_88 (Nat.le_of_ble_eq_true rfl) (Nat.le_of_ble_eq_true rfl) ⟨by split at h80 <;> simp_all, rfl⟩

set_option maxHeartbeats 4000000 in
set_option maxRecDepth 100000 in
theorem m_X2_child_5 {l : Launch} {s0 : State} {D : va_G} (h0 : x0 l s0 D) (σ : KS) (gF : xG) (hw : KW σ) (ch : Nat) (hc : ch < kA σ 61 0) : xMet l s0 D yX2_child cX2_child 4 (some .int) (xr 5 0 0 106) [.ref (kA σ 0 0), .int (nI ch), .int 5] (kmix σ gF) (fun r g1 => r = some (.int (iI (kI σ 34 ch))) ∧ g1 = kmix σ gF) := by
  refine xMet.of h0 (by decide +kernel) rfl ?_
  intro p e s m args below meth c hC hr hnm
  refine x_aloadr_n hC dX2_child_0 (q := 1) rfl rfl ?_
  refine x_iload_n hC dX2_child_1 (q := 2) rfl rfl ?_
  refine x_callV hC xv_X2_313 dX2_child_2 (q := 5) rfl rfl (m_X2_childOf h0 σ gF hw ch hc) (nn := (0, 0)) rfl rfl rfl (Nat.le_of_ble_eq_true rfl) ⟨(Nat.le_of_ble_eq_true rfl), (Nat.le_of_ble_eq_true rfl)⟩ ⟨(Nat.le_of_ble_eq_true rfl), (Nat.le_of_ble_eq_true rfl)⟩ (fun v g1 hp => ?_)
  obtain ⟨rfl, hg1⟩ := hp
  replace hg1 := hg1.symm
  subst hg1
  refine x_astorer_n hC dX2_child_5 (q := 6) rfl rfl ?_
  refine x_aloadr_n hC dX2_child_6 (q := 7) rfl rfl ?_
  refine x_ifnonnull_r hC dX2_child_7 (tgt := 12) rfl ?_
  refine x_iload_n hC dX2_child_12 (q := 13) rfl rfl ?_
  refine x_tableIn hC dX2_child_13 (by decide) (by decide) (off := 76) (by decide) (tgt := 89) rfl ?_
  refine x_aloadr_n hC dX2_child_89 (q := 90) rfl rfl ?_
  refine x_get hC xf_X2_371_5 dX2_child_90 (q := 93) rfl (n := (20, ch)) (kg_20 ch hc) rfl ?_
  exact x_iret hC hr dX2_child_93 (Nat.le_of_ble_eq_true rfl) (Nat.le_of_ble_eq_true rfl) ⟨rfl, rfl⟩

set_option maxHeartbeats 4000000 in
set_option maxRecDepth 100000 in
theorem m_X2_child_6 {l : Launch} {s0 : State} {D : va_G} (h0 : x0 l s0 D) (σ : KS) (gF : xG) (hw : KW σ) (ch : Nat) (hc : ch < kA σ 61 0) : xMet l s0 D yX2_child cX2_child 4 (some .int) (xr 5 0 0 106) [.ref (kA σ 0 0), .int (nI ch), .int 6] (kmix σ gF) (fun r g1 => r = some (.int (if iI (kI σ 36 ch) = 0 then 0 else 1)) ∧ g1 = kmix σ gF) := by
  refine xMet.of h0 (by decide +kernel) rfl ?_
  intro p e s m args below meth c hC hr hnm
  refine x_aloadr_n hC dX2_child_0 (q := 1) rfl rfl ?_
  refine x_iload_n hC dX2_child_1 (q := 2) rfl rfl ?_
  refine x_callV hC xv_X2_313 dX2_child_2 (q := 5) rfl rfl (m_X2_childOf h0 σ gF hw ch hc) (nn := (0, 0)) rfl rfl rfl (Nat.le_of_ble_eq_true rfl) ⟨(Nat.le_of_ble_eq_true rfl), (Nat.le_of_ble_eq_true rfl)⟩ ⟨(Nat.le_of_ble_eq_true rfl), (Nat.le_of_ble_eq_true rfl)⟩ (fun v g1 hp => ?_)
  obtain ⟨rfl, hg1⟩ := hp
  replace hg1 := hg1.symm
  subst hg1
  refine x_astorer_n hC dX2_child_5 (q := 6) rfl rfl ?_
  refine x_aloadr_n hC dX2_child_6 (q := 7) rfl rfl ?_
  refine x_ifnonnull_r hC dX2_child_7 (tgt := 12) rfl ?_
  refine x_iload_n hC dX2_child_12 (q := 13) rfl rfl ?_
  refine x_tableIn hC dX2_child_13 (by decide) (by decide) (off := 81) (by decide) (tgt := 94) rfl ?_
  refine x_aloadr_n hC dX2_child_94 (q := 95) rfl rfl ?_
  refine x_get hC xf_X2_373_5 dX2_child_95 (q := 98) rfl (n := (20, ch)) (kg_20 ch hc) rfl ?_
  refine x_if_eq hC dX2_child_98 (q := 101) rfl (tgt := 105) rfl (fun h98 => ?_) (fun h98 => ?_)
  · refine x_iconst hC dX2_child_105 (q := 106) rfl (v := (0)) (by decide) ?_
    exact x_iret hC hr dX2_child_106 (Nat.le_of_ble_eq_true rfl) (Nat.le_of_ble_eq_true rfl) ⟨by simp_all, rfl⟩
  refine x_iconst hC dX2_child_101 (q := 102) rfl (v := (1)) (by decide) ?_
  refine x_goto hC dX2_child_102 (tgt := 106) rfl ?_
  exact x_iret hC hr dX2_child_106 (Nat.le_of_ble_eq_true rfl) (Nat.le_of_ble_eq_true rfl) ⟨by simp_all, rfl⟩

set_option maxHeartbeats 4000000 in
set_option maxRecDepth 100000 in
theorem m_X2_kiln_0 {l : Launch} {s0 : State} {D : va_G} (h0 : x0 l s0 D) (σ : KS) (gF : xG) (hw : KW σ) (kq : Nat) (hq : kq < kA σ 62 0) : xMet l s0 D yX2_kiln cX2_kiln 4 (some .int) (xr 5 0 0 106) [.ref (kA σ 0 0), .int (nI kq), .int 0] (kmix σ gF) (fun r g1 => r = some (.int (nI (kA σ 25 kq))) ∧ g1 = kmix σ gF) := by
  refine xMet.of h0 (by decide +kernel) rfl ?_
  intro p e s m args below meth c hC hr hnm
  refine x_aloadr_n hC dX2_kiln_0 (q := 1) rfl rfl ?_
  refine x_iload_n hC dX2_kiln_1 (q := 2) rfl rfl ?_
  refine x_callV hC xv_X2_317 dX2_kiln_2 (q := 5) rfl rfl (m_X2_kilnOf h0 σ gF hw kq hq) (nn := (0, 0)) rfl rfl rfl (Nat.le_of_ble_eq_true rfl) ⟨(Nat.le_of_ble_eq_true rfl), (Nat.le_of_ble_eq_true rfl)⟩ ⟨(Nat.le_of_ble_eq_true rfl), (Nat.le_of_ble_eq_true rfl)⟩ (fun v g1 hp => ?_)
  obtain ⟨rfl, hg1⟩ := hp
  replace hg1 := hg1.symm
  subst hg1
  refine x_astorer_n hC dX2_kiln_5 (q := 6) rfl rfl ?_
  refine x_aloadr_n hC dX2_kiln_6 (q := 7) rfl rfl ?_
  refine x_ifnonnull_r hC dX2_kiln_7 (tgt := 12) rfl ?_
  refine x_iload_n hC dX2_kiln_12 (q := 13) rfl rfl ?_
  refine x_tableIn hC dX2_kiln_13 (by decide) (by decide) (off := 31) (by decide) (tgt := 44) rfl ?_
  refine x_aloadr_n hC dX2_kiln_44 (q := 45) rfl rfl ?_
  refine x_get hC xf_X2_214_6 dX2_kiln_45 (q := 48) rfl (n := (21, kq)) (kg_21 kq hq) rfl ?_
  exact x_iret hC hr dX2_kiln_48 (Nat.le_of_ble_eq_true rfl) (Nat.le_of_ble_eq_true rfl) ⟨rfl, rfl⟩

set_option maxHeartbeats 4000000 in
set_option maxRecDepth 100000 in
theorem m_X2_kiln_1 {l : Launch} {s0 : State} {D : va_G} (h0 : x0 l s0 D) (σ : KS) (gF : xG) (hw : KW σ) (kq : Nat) (hq : kq < kA σ 62 0) : xMet l s0 D yX2_kiln cX2_kiln 4 (some .int) (xr 5 0 0 106) [.ref (kA σ 0 0), .int (nI kq), .int 1] (kmix σ gF) (fun r g1 => r = some (.int (nI (kFull σ kq))) ∧ g1 = kmix σ gF) := by
  refine xMet.of h0 (by decide +kernel) rfl ?_
  intro p e s m args below meth c hC hr hnm
  refine x_aloadr_n hC dX2_kiln_0 (q := 1) rfl rfl ?_
  refine x_iload_n hC dX2_kiln_1 (q := 2) rfl rfl ?_
  refine x_callV hC xv_X2_317 dX2_kiln_2 (q := 5) rfl rfl (m_X2_kilnOf h0 σ gF hw kq hq) (nn := (0, 0)) rfl rfl rfl (Nat.le_of_ble_eq_true rfl) ⟨(Nat.le_of_ble_eq_true rfl), (Nat.le_of_ble_eq_true rfl)⟩ ⟨(Nat.le_of_ble_eq_true rfl), (Nat.le_of_ble_eq_true rfl)⟩ (fun v g1 hp => ?_)
  obtain ⟨rfl, hg1⟩ := hp
  replace hg1 := hg1.symm
  subst hg1
  refine x_astorer_n hC dX2_kiln_5 (q := 6) rfl rfl ?_
  refine x_aloadr_n hC dX2_kiln_6 (q := 7) rfl rfl ?_
  refine x_ifnonnull_r hC dX2_kiln_7 (tgt := 12) rfl ?_
  refine x_iload_n hC dX2_kiln_12 (q := 13) rfl rfl ?_
  refine x_tableIn hC dX2_kiln_13 (by decide) (by decide) (off := 36) (by decide) (tgt := 49) rfl ?_
  refine x_aloadr_n hC dX2_kiln_49 (q := 50) rfl rfl ?_
  refine x_callV hC xv_X2_217 dX2_kiln_50 (q := 53) rfl rfl (m_X9_full h0 σ gF kq hq (hw.2.2.2.1 kq hq)) (nn := (21, kq)) (kg_21 kq hq) rfl rfl (Nat.le_of_ble_eq_true rfl) ⟨(Nat.le_of_ble_eq_true rfl), (Nat.le_of_ble_eq_true rfl)⟩ ⟨(Nat.le_of_ble_eq_true rfl), (Nat.le_of_ble_eq_true rfl)⟩ (fun v g1 hp => ?_)
  obtain ⟨rfl, hg1⟩ := hp
  replace hg1 := hg1.symm
  subst hg1
  exact x_iret hC hr dX2_kiln_53 (Nat.le_of_ble_eq_true rfl) (Nat.le_of_ble_eq_true rfl) ⟨rfl, rfl⟩

set_option maxHeartbeats 4000000 in
set_option maxRecDepth 100000 in
theorem m_X2_kiln_2 {l : Launch} {s0 : State} {D : va_G} (h0 : x0 l s0 D) (σ : KS) (gF : xG) (hw : KW σ) (kq : Nat) (hq : kq < kA σ 62 0) : xMet l s0 D yX2_kiln cX2_kiln 4 (some .int) (xr 5 0 0 106) [.ref (kA σ 0 0), .int (nI kq), .int 2] (kmix σ gF) (fun r g1 => r = some (.int (iI (kI σ 41 kq))) ∧ g1 = kmix σ gF) := by
  refine xMet.of h0 (by decide +kernel) rfl ?_
  intro p e s m args below meth c hC hr hnm
  refine x_aloadr_n hC dX2_kiln_0 (q := 1) rfl rfl ?_
  refine x_iload_n hC dX2_kiln_1 (q := 2) rfl rfl ?_
  refine x_callV hC xv_X2_317 dX2_kiln_2 (q := 5) rfl rfl (m_X2_kilnOf h0 σ gF hw kq hq) (nn := (0, 0)) rfl rfl rfl (Nat.le_of_ble_eq_true rfl) ⟨(Nat.le_of_ble_eq_true rfl), (Nat.le_of_ble_eq_true rfl)⟩ ⟨(Nat.le_of_ble_eq_true rfl), (Nat.le_of_ble_eq_true rfl)⟩ (fun v g1 hp => ?_)
  obtain ⟨rfl, hg1⟩ := hp
  replace hg1 := hg1.symm
  subst hg1
  refine x_astorer_n hC dX2_kiln_5 (q := 6) rfl rfl ?_
  refine x_aloadr_n hC dX2_kiln_6 (q := 7) rfl rfl ?_
  refine x_ifnonnull_r hC dX2_kiln_7 (tgt := 12) rfl ?_
  refine x_iload_n hC dX2_kiln_12 (q := 13) rfl rfl ?_
  refine x_tableIn hC dX2_kiln_13 (by decide) (by decide) (off := 41) (by decide) (tgt := 54) rfl ?_
  refine x_aloadr_n hC dX2_kiln_54 (q := 55) rfl rfl ?_
  refine x_get hC xf_X2_211_6 dX2_kiln_55 (q := 58) rfl (n := (21, kq)) (kg_21 kq hq) rfl ?_
  exact x_iret hC hr dX2_kiln_58 (Nat.le_of_ble_eq_true rfl) (Nat.le_of_ble_eq_true rfl) ⟨rfl, rfl⟩

set_option maxHeartbeats 4000000 in
set_option maxRecDepth 100000 in
theorem m_X2_burnt_n {l : Launch} {s0 : State} {D : va_G} (h0 : x0 l s0 D) (σ : KS) (gF : xG) (f : aEnv) (kq : Nat) (hq : kq < kA σ 62 0) (hn : kO σ 2 1 0 = none) : xMet l s0 D yX2_burnt cX2_burnt 3 (some .int) (xr 36 0 0 1500) [.ref (kA σ 0 0), .ref (kA σ 21 kq)] (kmix (kT σ f) gF) (fun r g1 => r = some (.int (iI (kI σ 41 kq))) ∧ g1 = kmix (kT σ f) gF) := by
  refine xMet.of h0 (by decide +kernel) rfl ?_
  intro p e s m args below meth c hC hr hnm
  refine x_aloadr_n hC dX2_burnt_0 (q := 1) rfl rfl ?_
  refine x_get hC xf_X2_20_1 dX2_burnt_1 (q := 4) rfl (n := (0, 0)) rfl rfl ?_
  refine x_get hC xf_X2_208_2 dX2_burnt_4 (q := 7) rfl (n := (3, 0)) rfl rfl ?_
  refine x_ifnonnull hC dX2_burnt_7 (q := 10) rfl (tgt := 15) rfl (fun a7 h7 => ?_) (fun h7 => ?_)
  · exact absurd (hn.symm.trans h7) (by simp)
  refine x_aloadr_n hC dX2_burnt_10 (q := 11) rfl rfl ?_
  refine x_get hC xf_X2_211_6 dX2_burnt_11 (q := 14) rfl (n := (21, kq)) (kg_21 kq hq) rfl ?_
  exact x_iret hC hr dX2_burnt_14 (Nat.le_of_ble_eq_true rfl) (Nat.le_of_ble_eq_true rfl) ⟨rfl, rfl⟩

set_option maxHeartbeats 4000000 in
set_option maxRecDepth 100000 in
theorem m_X2_burnt_s {l : Launch} {s0 : State} {D : va_G} (h0 : x0 l s0 D) (σ : KS) (gF : xG) (f : aEnv) (kq : Nat) (hq : kq < kA σ 62 0) (hr0 : kA σ 25 kq ≤ 6) {at0 : Nat} {fn : aEnv → Int64} (hn : kO σ 2 1 0 = some at0) (hR : aR gF 6 false at0 fn) : xMet l s0 D yX2_burnt cX2_burnt 3 (some .int) (xr 36 0 0 1500) [.ref (kA σ 0 0), .ref (kA σ 21 kq)] (kmix (kT σ f) gF) (fun r g1 => r = some (.int (if 0 < fn (ePut (ePut (eW σ f (iI (kI σ 41 kq))) 8 (nI (kA σ 25 kq))) 9 (nI (kFull σ kq))) then fn (ePut (ePut (eW σ f (iI (kI σ 41 kq))) 8 (nI (kA σ 25 kq))) 9 (nI (kFull σ kq))) else (0 : Int64)).toInt32) ∧ g1 = kmix (kT σ (ePut (ePut (eW σ f (iI (kI σ 41 kq))) 8 (nI (kA σ 25 kq))) 9 (nI (kFull σ kq)))) gF) := by
  refine xMet.of h0 (by decide +kernel) rfl ?_
  intro p e s m args below meth c hC hr hnm
  refine x_aloadr_n hC dX2_burnt_0 (q := 1) rfl rfl ?_
  refine x_get hC xf_X2_20_1 dX2_burnt_1 (q := 4) rfl (n := (0, 0)) rfl rfl ?_
  refine x_get hC xf_X2_208_2 dX2_burnt_4 (q := 7) rfl (n := (3, 0)) rfl rfl ?_
  refine x_ifnonnull hC dX2_burnt_7 (q := 10) rfl (tgt := 15) rfl (fun a7 h7 => ?_) (fun h7 => ?_)
  · refine x_aloadr_n hC dX2_burnt_15 (q := 16) rfl rfl ?_
    refine x_aloadr_n hC dX2_burnt_16 (q := 17) rfl rfl ?_
    refine x_get hC xf_X2_211_6 dX2_burnt_17 (q := 20) rfl (n := (21, kq)) (kg_21 kq hq) rfl ?_
    refine x_callV hC xv_X2_160 dX2_burnt_20 (q := 23) rfl rfl (m_X2_asked h0 σ gF f _) (nn := (0, 0)) rfl rfl rfl (Nat.le_of_ble_eq_true rfl) ⟨(Nat.le_of_ble_eq_true rfl), (Nat.le_of_ble_eq_true rfl)⟩ ⟨(Nat.le_of_ble_eq_true rfl), (Nat.le_of_ble_eq_true rfl)⟩ (fun v g1 hp => ?_)
    obtain ⟨rfl, hg1⟩ := hp
    replace hg1 := hg1.symm
    subst hg1
    refine x_astorer_n hC dX2_burnt_23 (q := 24) rfl rfl ?_
    refine x_aloadr_n hC dX2_burnt_24 (q := 25) rfl rfl ?_
    refine x_bipush hC dX2_burnt_25 (q := 27) rfl (v := (8)) (by decide) ?_
    refine x_aloadr_n hC dX2_burnt_27 (q := 28) rfl rfl ?_
    refine x_get hC xf_X2_214_6 dX2_burnt_28 (q := 31) rfl (n := (21, kq)) (kg_21 kq hq) rfl ?_
    refine x_i2l hC dX2_burnt_31 (q := 32) rfl ?_
    refine x_last hC dX2_burnt_32 (q := 33) rfl (n := (9, 0)) rfl rfl (j := 8) rfl (by decide) (by decide) ?_
    refine x_geq kf_ask ?_
    refine x_aloadr_n hC dX2_burnt_33 (q := 34) rfl rfl ?_
    refine x_bipush hC dX2_burnt_34 (q := 36) rfl (v := (9)) (by decide) ?_
    refine x_aloadr_n hC dX2_burnt_36 (q := 37) rfl rfl ?_
    refine x_callV hC xv_X2_217 dX2_burnt_37 (q := 40) rfl rfl (m_X9_full h0 _ gF kq hq hr0) (nn := (21, kq)) (kg_21 kq hq) rfl rfl (Nat.le_of_ble_eq_true rfl) ⟨(Nat.le_of_ble_eq_true rfl), (Nat.le_of_ble_eq_true rfl)⟩ ⟨(Nat.le_of_ble_eq_true rfl), (Nat.le_of_ble_eq_true rfl)⟩ (fun v g1 hp => ?_)
    obtain ⟨rfl, hg1⟩ := hp
    replace hg1 := hg1.symm
    subst hg1
    refine x_i2l hC dX2_burnt_40 (q := 41) rfl ?_
    refine x_last hC dX2_burnt_41 (q := 42) rfl (n := (9, 0)) rfl rfl (j := 9) rfl (by decide) (by decide) ?_
    refine x_geq kf_ask ?_
    refine x_lconst hC dX2_burnt_42 (q := 43) rfl (v := 0) (by decide) ?_
    refine x_aloadr_n hC dX2_burnt_43 (q := 44) rfl rfl ?_
    refine x_get hC xf_X2_20_1 dX2_burnt_44 (q := 47) rfl (n := (0, 0)) rfl rfl ?_
    refine x_get hC xf_X2_208_2 dX2_burnt_47 (q := 50) rfl (n := (3, 0)) rfl rfl ?_
    refine x_steq (st1 := [.ref at0, .long 0]) (by show [va_rf (kO σ 2 1 0), _] = _; rw [hn]; rfl) ?_
    refine x_aloadr_n hC dX2_burnt_50 (q := 51) rfl rfl ?_
    refine x_get hC xf_X2_41_1 dX2_burnt_51 (q := 54) rfl (n := (0, 0)) rfl rfl ?_
    obtain ⟨Cv, yv, bv, Lv, civ, nv, fsv, hgv, hxv, hcv, hfv, ⟨hLv, hokv⟩, hMv⟩ := (kEv h0 σ gF _).1 _ _ (aR_kmix _ hR)
    refine x_callF hC q1413 hfv dX2_burnt_54 (q := 59) rfl rfl hMv (nn := nv) hgv hxv rfl (Nat.le_of_ble_eq_true rfl) ⟨by dsimp only; omega, by dsimp only; omega⟩ ⟨Nat.le_refl _, Nat.le_refl _⟩ (fun v g1 hp => ?_) hokv
    obtain ⟨rfl, hg1⟩ := hp
    replace hg1 := hg1.symm
    subst hg1
    refine x_callS hC xv_X2_71 dX2_burnt_59 (q := 62) rfl rfl (m_J0_max_2 h0 _ _ _) rfl (Nat.le_of_ble_eq_true rfl) ⟨(Nat.le_of_ble_eq_true rfl), (Nat.le_of_ble_eq_true rfl)⟩ ⟨(Nat.le_of_ble_eq_true rfl), (Nat.le_of_ble_eq_true rfl)⟩ (fun v g1 hp => ?_)
    obtain ⟨rfl, hg1⟩ := hp
    replace hg1 := hg1.symm
    subst hg1
    refine x_l2i hC dX2_burnt_62 (q := 63) rfl ?_
    exact x_iret hC hr dX2_burnt_63 (Nat.le_of_ble_eq_true rfl) (Nat.le_of_ble_eq_true rfl) ⟨rfl, rfl⟩
  · exact absurd (hn.symm.trans h7) (by simp)

theorem m_X2_burnt {l : Launch} {s0 : State} {D : va_G} (h0 : x0 l s0 D) (σ : KS) (gF : xG) (f : aEnv) {F : Nat → Option (aEnv → Int64)} (hF : kF gF σ F) (hw : KW σ) (kq : Nat) (hq : kq < kA σ 62 0) : xMet l s0 D yX2_burnt cX2_burnt 3 (some .int) (xr 36 0 0 1500) [.ref (kA σ 0 0), .ref (kA σ 21 kq)] (kmix (kT σ f) gF) (fun r g1 => ∃ f1, r = some (.int (kBurn F σ kq)) ∧ g1 = kmix (kT σ f1) gF) := by
  unfold kBurn
  rcases hF 1 (by decide) with ⟨h1, h2⟩ | ⟨a, fn, h1, h2, h3, h4⟩
  · rw [h2]
    exact xMet.post (m_X2_burnt_n h0 σ gF f kq hq h1) (fun v g1 h => ⟨f, h⟩)
  · rw [h2]
    refine xMet.post (m_X2_burnt_s h0 σ gF f kq hq (hw.2.2.2.1 kq hq) h1 h3) (fun v g1 h => ⟨_, ?_, h.2⟩)
    rw [h.1, h4 _ _ (eB_dep σ f _ _ _)]

set_option maxHeartbeats 4000000 in
set_option maxRecDepth 100000 in
theorem m_X2_kiln_3 {l : Launch} {s0 : State} {D : va_G} (h0 : x0 l s0 D) (σ : KS) (gF : xG) (f : aEnv) {F : Nat → Option (aEnv → Int64)} (hF : kF gF σ F) (hw : KW σ) (kq : Nat) (hq : kq < kA σ 62 0) : xMet l s0 D yX2_kiln cX2_kiln 4 (some .int) (xr 37 0 0 1530) [.ref (kA σ 0 0), .int (nI kq), .int 3] (kmix (kT σ f) gF) (fun r g1 => ∃ f1, r = some (.int (if iI (kI σ 41 kq) = -1 then -1 else kBurn F σ kq)) ∧ g1 = kmix (kT σ f1) gF) := by
  refine xMet.of h0 (by decide +kernel) rfl ?_
  intro p e s m args below meth c hC hr hnm
  refine x_aloadr_n hC dX2_kiln_0 (q := 1) rfl rfl ?_
  refine x_iload_n hC dX2_kiln_1 (q := 2) rfl rfl ?_
  refine x_callV hC xv_X2_317 dX2_kiln_2 (q := 5) rfl rfl (m_X2_kilnOf h0 (kT σ f) gF hw kq hq) (nn := (0, 0)) rfl rfl rfl (Nat.le_of_ble_eq_true rfl) ⟨(Nat.le_of_ble_eq_true rfl), (Nat.le_of_ble_eq_true rfl)⟩ ⟨(Nat.le_of_ble_eq_true rfl), (Nat.le_of_ble_eq_true rfl)⟩ (fun v g1 hp => ?_)
  obtain ⟨rfl, hg1⟩ := hp
  replace hg1 := hg1.symm
  subst hg1
  refine x_astorer_n hC dX2_kiln_5 (q := 6) rfl rfl ?_
  refine x_aloadr_n hC dX2_kiln_6 (q := 7) rfl rfl ?_
  refine x_ifnonnull_r hC dX2_kiln_7 (tgt := 12) rfl ?_
  refine x_iload_n hC dX2_kiln_12 (q := 13) rfl rfl ?_
  refine x_tableIn hC dX2_kiln_13 (by decide) (by decide) (off := 46) (by decide) (tgt := 59) rfl ?_
  refine x_aloadr_n hC dX2_kiln_59 (q := 60) rfl rfl ?_
  refine x_callV hC xv_X2_234 dX2_kiln_60 (q := 63) rfl rfl (m_X9_isLit h0 (kT σ f) gF kq hq) (nn := (21, kq)) (kg_21 kq hq) rfl rfl (Nat.le_of_ble_eq_true rfl) ⟨(Nat.le_of_ble_eq_true rfl), (Nat.le_of_ble_eq_true rfl)⟩ ⟨(Nat.le_of_ble_eq_true rfl), (Nat.le_of_ble_eq_true rfl)⟩ (fun v g1 hp => ?_)
  obtain ⟨rfl, hg1⟩ := hp
  replace hg1 := hg1.symm
  subst hg1
  refine x_if_eq hC dX2_kiln_63 (q := 66) rfl (tgt := 74) rfl (fun h63 => ?_) (fun h63 => ?_)
  · rw [show kI (kT σ f) = kI σ from rfl] at h63
    have hl : iI (kI σ 41 kq) = -1 := by
      split at h63
      · assumption
      · exact absurd h63 (by decide)
    refine x_iconst hC dX2_kiln_74 (q := 75) rfl (v := (-1)) (by decide) ?_
    exact x_iret hC hr dX2_kiln_75 (Nat.le_of_ble_eq_true rfl) (Nat.le_of_ble_eq_true rfl) ⟨_, by first | rw [if_pos hl] | rw [if_neg hl], rfl⟩
  rw [show kI (kT σ f) = kI σ from rfl] at h63
  have hl : ¬ iI (kI σ 41 kq) = -1 := fun q => h63 (by rw [if_pos q])
  refine x_aloadr_n hC dX2_kiln_66 (q := 67) rfl rfl ?_
  refine x_aloadr_n hC dX2_kiln_67 (q := 68) rfl rfl ?_
  refine x_callV hC xv_X2_238 dX2_kiln_68 (q := 71) rfl rfl (m_X2_burnt h0 σ gF f hF hw kq hq) (nn := (0, 0)) rfl rfl rfl (Nat.le_of_ble_eq_true rfl) ⟨(Nat.le_of_ble_eq_true rfl), (Nat.le_of_ble_eq_true rfl)⟩ ⟨(Nat.le_of_ble_eq_true rfl), (Nat.le_of_ble_eq_true rfl)⟩ (fun v g1 hp => ?_)
  obtain ⟨f1, rfl, hg1⟩ := hp
  replace hg1 := hg1.symm
  subst hg1
  refine x_goto hC dX2_kiln_71 (tgt := 75) rfl ?_
  exact x_iret hC hr dX2_kiln_75 (Nat.le_of_ble_eq_true rfl) (Nat.le_of_ble_eq_true rfl) ⟨_, by first | rw [if_pos hl] | rw [if_neg hl], rfl⟩

set_option maxHeartbeats 4000000 in
set_option maxRecDepth 100000 in
theorem m_X2_has_0 {l : Launch} {s0 : State} {D : va_G} (h0 : x0 l s0 D) (σ : KS) (gF : xG)  : xMet l s0 D yX2_has cX2_has 2 (some .int) (xr 2 0 0 41) [.ref (kA σ 0 0), .int 0] (kmix σ gF) (fun r g1 => r = some (.int (nI (kA σ 61 0))) ∧ g1 = kmix σ gF) := by
  refine xMet.of h0 (by decide +kernel) rfl ?_
  intro p e s m args below meth c hC hr hnm
  refine x_iload_n hC dX2_has_0 (q := 1) rfl rfl ?_
  refine x_tableIn hC dX2_has_1 (by decide) (by decide) (off := 63) (by decide) (tgt := 64) rfl ?_
  refine x_aloadr_n hC dX2_has_64 (q := 65) rfl rfl ?_
  refine x_callV hC xv_X2_351 dX2_has_65 (q := 68) rfl rfl (m_X2_children h0 σ gF) (nn := (0, 0)) rfl rfl rfl (Nat.le_of_ble_eq_true rfl) ⟨(Nat.le_of_ble_eq_true rfl), (Nat.le_of_ble_eq_true rfl)⟩ ⟨(Nat.le_of_ble_eq_true rfl), (Nat.le_of_ble_eq_true rfl)⟩ (fun v g1 hp => ?_)
  obtain ⟨rfl, hg1⟩ := hp
  replace hg1 := hg1.symm
  subst hg1
  exact x_iret hC hr dX2_has_68 (Nat.le_of_ble_eq_true rfl) (Nat.le_of_ble_eq_true rfl) ⟨rfl, rfl⟩

set_option maxHeartbeats 4000000 in
set_option maxRecDepth 100000 in
theorem m_X2_has_1 {l : Launch} {s0 : State} {D : va_G} (h0 : x0 l s0 D) (σ : KS) (gF : xG)  : xMet l s0 D yX2_has cX2_has 2 (some .int) (xr 2 0 0 41) [.ref (kA σ 0 0), .int 1] (kmix σ gF) (fun r g1 => r = some (.int (nI (kA σ 62 0))) ∧ g1 = kmix σ gF) := by
  refine xMet.of h0 (by decide +kernel) rfl ?_
  intro p e s m args below meth c hC hr hnm
  refine x_iload_n hC dX2_has_0 (q := 1) rfl rfl ?_
  refine x_tableIn hC dX2_has_1 (by decide) (by decide) (off := 68) (by decide) (tgt := 69) rfl ?_
  refine x_aloadr_n hC dX2_has_69 (q := 70) rfl rfl ?_
  refine x_callV hC xv_X2_232 dX2_has_70 (q := 73) rfl rfl (m_X2_kilns h0 σ gF) (nn := (0, 0)) rfl rfl rfl (Nat.le_of_ble_eq_true rfl) ⟨(Nat.le_of_ble_eq_true rfl), (Nat.le_of_ble_eq_true rfl)⟩ ⟨(Nat.le_of_ble_eq_true rfl), (Nat.le_of_ble_eq_true rfl)⟩ (fun v g1 hp => ?_)
  obtain ⟨rfl, hg1⟩ := hp
  replace hg1 := hg1.symm
  subst hg1
  exact x_iret hC hr dX2_has_73 (Nat.le_of_ble_eq_true rfl) (Nat.le_of_ble_eq_true rfl) ⟨rfl, rfl⟩

set_option maxHeartbeats 4000000 in
set_option maxRecDepth 100000 in
theorem m_X2_has_2 {l : Launch} {s0 : State} {D : va_G} (h0 : x0 l s0 D) (σ : KS) (gF : xG)  : xMet l s0 D yX2_has cX2_has 2 (some .int) (xr 2 0 0 41) [.ref (kA σ 0 0), .int 2] (kmix σ gF) (fun r g1 => r = some (.int (iI (kI σ 3 0))) ∧ g1 = kmix σ gF) := by
  refine xMet.of h0 (by decide +kernel) rfl ?_
  intro p e s m args below meth c hC hr hnm
  refine x_iload_n hC dX2_has_0 (q := 1) rfl rfl ?_
  refine x_tableIn hC dX2_has_1 (by decide) (by decide) (off := 73) (by decide) (tgt := 74) rfl ?_
  refine x_aloadr_n hC dX2_has_74 (q := 75) rfl rfl ?_
  refine x_get hC xf_X2_119_1 dX2_has_75 (q := 78) rfl (n := (0, 0)) rfl rfl ?_
  exact x_iret hC hr dX2_has_78 (Nat.le_of_ble_eq_true rfl) (Nat.le_of_ble_eq_true rfl) ⟨rfl, rfl⟩

set_option maxHeartbeats 4000000 in
set_option maxRecDepth 100000 in
theorem m_X2_has_3 {l : Launch} {s0 : State} {D : va_G} (h0 : x0 l s0 D) (σ : KS) (gF : xG)  : xMet l s0 D yX2_has cX2_has 2 (some .int) (xr 2 0 0 41) [.ref (kA σ 0 0), .int 3] (kmix σ gF) (fun r g1 => r = some (.int (iI (kI σ 7 0))) ∧ g1 = kmix σ gF) := by
  refine xMet.of h0 (by decide +kernel) rfl ?_
  intro p e s m args below meth c hC hr hnm
  refine x_iload_n hC dX2_has_0 (q := 1) rfl rfl ?_
  refine x_tableIn hC dX2_has_1 (by decide) (by decide) (off := 78) (by decide) (tgt := 79) rfl ?_
  refine x_aloadr_n hC dX2_has_79 (q := 80) rfl rfl ?_
  refine x_get hC xf_X2_20_1 dX2_has_80 (q := 83) rfl (n := (0, 0)) rfl rfl ?_
  refine x_get hC xf_X2_223_2 dX2_has_83 (q := 86) rfl (n := (3, 0)) rfl rfl ?_
  exact x_iret hC hr dX2_has_86 (Nat.le_of_ble_eq_true rfl) (Nat.le_of_ble_eq_true rfl) ⟨rfl, rfl⟩

set_option maxHeartbeats 4000000 in
set_option maxRecDepth 100000 in
theorem m_X2_has_8 {l : Launch} {s0 : State} {D : va_G} (h0 : x0 l s0 D) (σ : KS) (gF : xG)  : xMet l s0 D yX2_has cX2_has 2 (some .int) (xr 2 0 0 41) [.ref (kA σ 0 0), .int 8] (kmix σ gF) (fun r g1 => r = some (.int (nI (kA σ 63 0))) ∧ g1 = kmix σ gF) := by
  refine xMet.of h0 (by decide +kernel) rfl ?_
  intro p e s m args below meth c hC hr hnm
  refine x_iload_n hC dX2_has_0 (q := 1) rfl rfl ?_
  refine x_tableIn hC dX2_has_1 (by decide) (by decide) (off := 150) (by decide) (tgt := 151) rfl ?_
  refine x_aloadr_n hC dX2_has_151 (q := 152) rfl rfl ?_
  refine x_get hC xf_X2_31_1 dX2_has_152 (q := 155) rfl (n := (0, 0)) rfl rfl ?_
  refine x_callV hC xv_X2_136 dX2_has_155 (q := 158) rfl rfl (m_J3_size h0 _ (n := (10, 0)) rfl) (nn := (10, 0)) rfl rfl rfl (Nat.le_of_ble_eq_true rfl) ⟨(Nat.le_of_ble_eq_true rfl), (Nat.le_of_ble_eq_true rfl)⟩ ⟨(Nat.le_of_ble_eq_true rfl), (Nat.le_of_ble_eq_true rfl)⟩ (fun v g1 hp => ?_)
  obtain ⟨rfl, hg1⟩ := hp
  replace hg1 := hg1.symm
  subst hg1
  exact x_iret hC hr dX2_has_158 (Nat.le_of_ble_eq_true rfl) (Nat.le_of_ble_eq_true rfl) ⟨rfl, rfl⟩

set_option maxHeartbeats 4000000 in
set_option maxRecDepth 100000 in
theorem m_X2_has_9 {l : Launch} {s0 : State} {D : va_G} (h0 : x0 l s0 D) (σ : KS) (gF : xG)  : xMet l s0 D yX2_has cX2_has 2 (some .int) (xr 2 0 0 41) [.ref (kA σ 0 0), .int 9] (kmix σ gF) (fun r g1 => r = some (.int (nI (kA σ 64 0))) ∧ g1 = kmix σ gF) := by
  refine xMet.of h0 (by decide +kernel) rfl ?_
  intro p e s m args below meth c hC hr hnm
  refine x_iload_n hC dX2_has_0 (q := 1) rfl rfl ?_
  refine x_tableIn hC dX2_has_1 (by decide) (by decide) (off := 158) (by decide) (tgt := 159) rfl ?_
  refine x_aloadr_n hC dX2_has_159 (q := 160) rfl rfl ?_
  refine x_get hC xf_X2_35_1 dX2_has_160 (q := 163) rfl (n := (0, 0)) rfl rfl ?_
  refine x_callV hC xv_X2_136 dX2_has_163 (q := 166) rfl rfl (m_J3_size h0 _ (n := (13, 0)) rfl) (nn := (13, 0)) rfl rfl rfl (Nat.le_of_ble_eq_true rfl) ⟨(Nat.le_of_ble_eq_true rfl), (Nat.le_of_ble_eq_true rfl)⟩ ⟨(Nat.le_of_ble_eq_true rfl), (Nat.le_of_ble_eq_true rfl)⟩ (fun v g1 hp => ?_)
  obtain ⟨rfl, hg1⟩ := hp
  replace hg1 := hg1.symm
  subst hg1
  exact x_iret hC hr dX2_has_166 (Nat.le_of_ble_eq_true rfl) (Nat.le_of_ble_eq_true rfl) ⟨rfl, rfl⟩

set_option maxHeartbeats 4000000 in
set_option maxRecDepth 100000 in
theorem m_X2_has_10 {l : Launch} {s0 : State} {D : va_G} (h0 : x0 l s0 D) (σ : KS) (gF : xG)  : xMet l s0 D yX2_has cX2_has 2 (some .int) (xr 2 0 0 41) [.ref (kA σ 0 0), .int 10] (kmix σ gF) (fun r g1 => r = some (.int (nI (kA σ 65 0))) ∧ g1 = kmix σ gF) := by
  refine xMet.of h0 (by decide +kernel) rfl ?_
  intro p e s m args below meth c hC hr hnm
  refine x_iload_n hC dX2_has_0 (q := 1) rfl rfl ?_
  refine x_tableIn hC dX2_has_1 (by decide) (by decide) (off := 166) (by decide) (tgt := 167) rfl ?_
  refine x_aloadr_n hC dX2_has_167 (q := 168) rfl rfl ?_
  refine x_get hC xf_X2_45_1 dX2_has_168 (q := 171) rfl (n := (0, 0)) rfl rfl ?_
  refine x_callV hC xv_X2_136 dX2_has_171 (q := 174) rfl rfl (m_J3_size h0 _ (n := (16, 0)) rfl) (nn := (16, 0)) rfl rfl rfl (Nat.le_of_ble_eq_true rfl) ⟨(Nat.le_of_ble_eq_true rfl), (Nat.le_of_ble_eq_true rfl)⟩ ⟨(Nat.le_of_ble_eq_true rfl), (Nat.le_of_ble_eq_true rfl)⟩ (fun v g1 hp => ?_)
  obtain ⟨rfl, hg1⟩ := hp
  replace hg1 := hg1.symm
  subst hg1
  exact x_iret hC hr dX2_has_174 (Nat.le_of_ble_eq_true rfl) (Nat.le_of_ble_eq_true rfl) ⟨rfl, rfl⟩

set_option maxHeartbeats 4000000 in
set_option maxRecDepth 100000 in
theorem m_X2_has_11 {l : Launch} {s0 : State} {D : va_G} (h0 : x0 l s0 D) (σ : KS) (gF : xG)  : xMet l s0 D yX2_has cX2_has 2 (some .int) (xr 2 0 0 41) [.ref (kA σ 0 0), .int 11] (kmix σ gF) (fun r g1 => r = some (.int (kL σ 1 0).toInt32) ∧ g1 = kmix σ gF) := by
  refine xMet.of h0 (by decide +kernel) rfl ?_
  intro p e s m args below meth c hC hr hnm
  refine x_iload_n hC dX2_has_0 (q := 1) rfl rfl ?_
  refine x_tableIn hC dX2_has_1 (by decide) (by decide) (off := 174) (by decide) (tgt := 175) rfl ?_
  refine x_aloadr_n hC dX2_has_175 (q := 176) rfl rfl ?_
  refine x_get hC xf_X2_48_1 dX2_has_176 (q := 179) rfl (n := (0, 0)) rfl rfl ?_
  refine x_l2i hC dX2_has_179 (q := 180) rfl ?_
  exact x_iret hC hr dX2_has_180 (Nat.le_of_ble_eq_true rfl) (Nat.le_of_ble_eq_true rfl) ⟨rfl, rfl⟩

set_option maxHeartbeats 4000000 in
set_option maxRecDepth 100000 in
theorem m_X2_areThere {l : Launch} {s0 : State} {D : va_G} (h0 : x0 l s0 D) (σ : KS) (gF : xG) (f : aEnv) (ch : Nat) (hc : ch < kA σ 61 0) (x y : Int32) (hx : 0 ≤ x.toInt ∧ x.toInt ≤ 20) (hy : 0 ≤ y.toInt ∧ y.toInt ≤ 5) : xMet l s0 D yX2_areThere cX2_areThere 4 (some .boolean) (xr 1 0 0 25) [.ref (kA σ 0 0), .ref (kA σ 20 ch), .int x, .int y] (kmix (kT σ f) gF) (fun r g1 => r = some (.int 1) ∧ g1 = kmix (kT σ f) gF) := by
  refine xMet.of h0 (by decide +kernel) rfl ?_
  intro p e s m args below meth c hC hr hnm
  refine x_aloadr_n hC dX2_areThere_0 (q := 1) rfl rfl ?_
  refine x_ifnull_r hC dX2_areThere_1 (q := 4) rfl ?_
  refine x_iload_n hC dX2_areThere_4 (q := 5) rfl rfl ?_
  refine x_i2l hC dX2_areThere_5 (q := 6) rfl ?_
  refine x_lconst hC dX2_areThere_6 (q := 7) rfl (v := 0) (by decide) ?_
  refine x_ldc2_w hC dX2_areThere_7 (q := 10) rfl q1539 ?_
  refine x_callS hC xv_X2_95 dX2_areThere_10 (q := 13) rfl rfl (m_isIn_t h0 _ (x := x.toInt) (y := 0) (z := 20) (Int32.toInt_toInt64 x) rfl rfl hx) rfl (Nat.le_of_ble_eq_true rfl) ⟨(Nat.le_of_ble_eq_true rfl), (Nat.le_of_ble_eq_true rfl)⟩ ⟨(Nat.le_of_ble_eq_true rfl), (Nat.le_of_ble_eq_true rfl)⟩ (fun v g1 hp => ?_)
  obtain ⟨rfl, hg1⟩ := hp
  replace hg1 := hg1.symm
  subst hg1
  refine x_if_eq hC dX2_areThere_13 (q := 16) rfl (tgt := 32) rfl (fun h13 => ?_) (fun h13 => ?_)
  · exact absurd h13 (by decide)
  refine x_iload_n hC dX2_areThere_16 (q := 17) rfl rfl ?_
  refine x_i2l hC dX2_areThere_17 (q := 18) rfl ?_
  refine x_lconst hC dX2_areThere_18 (q := 19) rfl (v := 0) (by decide) ?_
  refine x_ldc2_w hC dX2_areThere_19 (q := 22) rfl q1540 ?_
  refine x_callS hC xv_X2_95 dX2_areThere_22 (q := 25) rfl rfl (m_isIn_t h0 _ (x := y.toInt) (y := 0) (z := 5) (Int32.toInt_toInt64 y) rfl rfl hy) rfl (Nat.le_of_ble_eq_true rfl) ⟨(Nat.le_of_ble_eq_true rfl), (Nat.le_of_ble_eq_true rfl)⟩ ⟨(Nat.le_of_ble_eq_true rfl), (Nat.le_of_ble_eq_true rfl)⟩ (fun v g1 hp => ?_)
  obtain ⟨rfl, hg1⟩ := hp
  replace hg1 := hg1.symm
  subst hg1
  refine x_if_eq hC dX2_areThere_25 (q := 28) rfl (tgt := 32) rfl (fun h25 => ?_) (fun h25 => ?_)
  · exact absurd h25 (by decide)
  refine x_iconst hC dX2_areThere_28 (q := 29) rfl (v := (1)) (by decide) ?_
  refine x_goto hC dX2_areThere_29 (tgt := 33) rfl ?_
  exact x_zret hC hr rfl dX2_areThere_33 (Nat.le_of_ble_eq_true rfl) (Nat.le_of_ble_eq_true rfl) ⟨rfl, rfl⟩

set_option maxHeartbeats 4000000 in
set_option maxRecDepth 100000 in
theorem m_X2_rings {l : Launch} {s0 : State} {D : va_G} (h0 : x0 l s0 D) (σ : KS) (gF : xG) (f : aEnv) {F : Nat → Option (aEnv → Int64)} (hF : kF gF σ F) (hw : KW σ) (ch : Nat) (hc : ch < kA σ 61 0) (x y : Int32) (hx : 0 ≤ x.toInt ∧ x.toInt ≤ 20) (hy : 0 ≤ y.toInt ∧ y.toInt ≤ 5) : xMet l s0 D yX2_rings cX2_rings 5 (some .int) (xr 37 0 0 1530) [.ref (kA σ 0 0), .int (nI ch), .int x, .int y] (kmix (kT σ f) gF) (fun r g1 => ∃ f1, r = some (.int (kTemp F σ ch x y)) ∧ g1 = kmix (kT σ f1) gF) := by
  refine xMet.of h0 (by decide +kernel) rfl ?_
  intro p e s m args below meth c hC hr hnm
  refine x_aloadr_n hC dX2_rings_0 (q := 1) rfl rfl ?_
  refine x_iload_n hC dX2_rings_1 (q := 2) rfl rfl ?_
  refine x_callV hC xv_X2_313 dX2_rings_2 (q := 5) rfl rfl (m_X2_childOf h0 (kT σ f) gF hw ch hc) (nn := (0, 0)) rfl rfl rfl (Nat.le_of_ble_eq_true rfl) ⟨(Nat.le_of_ble_eq_true rfl), (Nat.le_of_ble_eq_true rfl)⟩ ⟨(Nat.le_of_ble_eq_true rfl), (Nat.le_of_ble_eq_true rfl)⟩ (fun v g1 hp => ?_)
  obtain ⟨rfl, hg1⟩ := hp
  replace hg1 := hg1.symm
  subst hg1
  refine x_astorer hC dX2_rings_5 (q := 7) rfl rfl ?_
  refine x_aloadr_n hC dX2_rings_7 (q := 8) rfl rfl ?_
  refine x_aloadr hC dX2_rings_8 (q := 10) rfl rfl ?_
  refine x_iload_n hC dX2_rings_10 (q := 11) rfl rfl ?_
  refine x_iload_n hC dX2_rings_11 (q := 12) rfl rfl ?_
  refine x_callV hC xv_X2_379 dX2_rings_12 (q := 15) rfl rfl (m_X2_areThere h0 σ gF f ch hc x y hx hy) (nn := (0, 0)) rfl rfl rfl (Nat.le_of_ble_eq_true rfl) ⟨(Nat.le_of_ble_eq_true rfl), (Nat.le_of_ble_eq_true rfl)⟩ ⟨(Nat.le_of_ble_eq_true rfl), (Nat.le_of_ble_eq_true rfl)⟩ (fun v g1 hp => ?_)
  obtain ⟨rfl, hg1⟩ := hp
  replace hg1 := hg1.symm
  subst hg1
  refine x_if_eq hC dX2_rings_15 (q := 18) rfl (tgt := 29) rfl (fun h15 => ?_) (fun h15 => ?_)
  · exact absurd h15 (by decide)
  refine x_aloadr_n hC dX2_rings_18 (q := 19) rfl rfl ?_
  refine x_aloadr hC dX2_rings_19 (q := 21) rfl rfl ?_
  refine x_iload_n hC dX2_rings_21 (q := 22) rfl rfl ?_
  refine x_iload_n hC dX2_rings_22 (q := 23) rfl rfl ?_
  refine x_callV hC xv_X2_192 dX2_rings_23 (q := 26) rfl rfl (m_X2_temperOf h0 σ gF f hF ch hc x y) (nn := (0, 0)) rfl rfl rfl (Nat.le_of_ble_eq_true rfl) ⟨(Nat.le_of_ble_eq_true rfl), (Nat.le_of_ble_eq_true rfl)⟩ ⟨(Nat.le_of_ble_eq_true rfl), (Nat.le_of_ble_eq_true rfl)⟩ (fun v g1 hp => ?_)
  obtain ⟨f1, rfl, hg1⟩ := hp
  replace hg1 := hg1.symm
  subst hg1
  refine x_goto hC dX2_rings_26 (tgt := 30) rfl ?_
  exact x_iret hC hr dX2_rings_30 (Nat.le_of_ble_eq_true rfl) (Nat.le_of_ble_eq_true rfl) ⟨_, rfl, rfl⟩

set_option maxHeartbeats 4000000 in
set_option maxRecDepth 100000 in
theorem m_X2_cracks {l : Launch} {s0 : State} {D : va_G} (h0 : x0 l s0 D) (σ : KS) (gF : xG) (f : aEnv) {F : Nat → Option (aEnv → Int64)} (hF : kF gF σ F) (hw : KW σ) (ch : Nat) (hc : ch < kA σ 61 0) (x y : Int32) (hx : 0 ≤ x.toInt ∧ x.toInt ≤ 20) (hy : 0 ≤ y.toInt ∧ y.toInt ≤ 5) : xMet l s0 D yX2_cracks cX2_cracks 5 (some .int) (xr 38 0 0 1560) [.ref (kA σ 0 0), .int (nI ch), .int x, .int y] (kmix (kT σ f) gF) (fun r g1 => ∃ f1, r = some (.int (if kCrack F σ ch x y = 0 then 0 else 1)) ∧ g1 = kmix (kT σ f1) gF) := by
  refine xMet.of h0 (by decide +kernel) rfl ?_
  intro p e s m args below meth c hC hr hnm
  refine x_aloadr_n hC dX2_cracks_0 (q := 1) rfl rfl ?_
  refine x_iload_n hC dX2_cracks_1 (q := 2) rfl rfl ?_
  refine x_callV hC xv_X2_313 dX2_cracks_2 (q := 5) rfl rfl (m_X2_childOf h0 (kT σ f) gF hw ch hc) (nn := (0, 0)) rfl rfl rfl (Nat.le_of_ble_eq_true rfl) ⟨(Nat.le_of_ble_eq_true rfl), (Nat.le_of_ble_eq_true rfl)⟩ ⟨(Nat.le_of_ble_eq_true rfl), (Nat.le_of_ble_eq_true rfl)⟩ (fun v g1 hp => ?_)
  obtain ⟨rfl, hg1⟩ := hp
  replace hg1 := hg1.symm
  subst hg1
  refine x_astorer hC dX2_cracks_5 (q := 7) rfl rfl ?_
  refine x_aloadr_n hC dX2_cracks_7 (q := 8) rfl rfl ?_
  refine x_aloadr hC dX2_cracks_8 (q := 10) rfl rfl ?_
  refine x_iload_n hC dX2_cracks_10 (q := 11) rfl rfl ?_
  refine x_iload_n hC dX2_cracks_11 (q := 12) rfl rfl ?_
  refine x_callV hC xv_X2_379 dX2_cracks_12 (q := 15) rfl rfl (m_X2_areThere h0 σ gF f ch hc x y hx hy) (nn := (0, 0)) rfl rfl rfl (Nat.le_of_ble_eq_true rfl) ⟨(Nat.le_of_ble_eq_true rfl), (Nat.le_of_ble_eq_true rfl)⟩ ⟨(Nat.le_of_ble_eq_true rfl), (Nat.le_of_ble_eq_true rfl)⟩ (fun v g1 hp => ?_)
  obtain ⟨rfl, hg1⟩ := hp
  replace hg1 := hg1.symm
  subst hg1
  refine x_if_ne hC dX2_cracks_15 (q := 18) rfl (tgt := 22) rfl (fun h15 => ?_) (fun h15 => ?_)
  · refine x_aloadr_n hC dX2_cracks_22 (q := 23) rfl rfl ?_
    refine x_aloadr hC dX2_cracks_23 (q := 25) rfl rfl ?_
    refine x_iload_n hC dX2_cracks_25 (q := 26) rfl rfl ?_
    refine x_iload_n hC dX2_cracks_26 (q := 27) rfl rfl ?_
    refine x_callV hC xv_X2_383 dX2_cracks_27 (q := 30) rfl rfl (m_X2_doesCrack h0 σ gF f hF ch hc x y) (nn := (0, 0)) rfl rfl rfl (Nat.le_of_ble_eq_true rfl) ⟨(Nat.le_of_ble_eq_true rfl), (Nat.le_of_ble_eq_true rfl)⟩ ⟨(Nat.le_of_ble_eq_true rfl), (Nat.le_of_ble_eq_true rfl)⟩ (fun v g1 hp => ?_)
    obtain ⟨f1, rfl, hg1⟩ := hp
    replace hg1 := hg1.symm
    subst hg1
    refine x_if_eq hC dX2_cracks_30 (q := 33) rfl (tgt := 37) rfl (fun h30 => ?_) (fun h30 => ?_)
    · refine x_iconst hC dX2_cracks_37 (q := 38) rfl (v := (0)) (by decide) ?_
      exact x_iret hC hr dX2_cracks_38 (Nat.le_of_ble_eq_true rfl) (Nat.le_of_ble_eq_true rfl) ⟨_, by simp_all, rfl⟩
    refine x_iconst hC dX2_cracks_33 (q := 34) rfl (v := (1)) (by decide) ?_
    refine x_goto hC dX2_cracks_34 (tgt := 38) rfl ?_
    exact x_iret hC hr dX2_cracks_38 (Nat.le_of_ble_eq_true rfl) (Nat.le_of_ble_eq_true rfl) ⟨_, by simp_all, rfl⟩
  · exact absurd h15 (by decide)
