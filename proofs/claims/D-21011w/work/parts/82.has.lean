/-! has 4..7 -/
set_option maxHeartbeats 4000000 in
set_option maxRecDepth 100000 in
theorem m_X2_lambda_has_0 {l : Launch} {s0 : State} {D : va_G} (h0 : x0 l s0 D) (σ : KS) (gF : xG) (ch : Nat) (hc : ch < kA σ 61 0) : xMet l s0 D yX2_lambda_has_0 cX2_lambda_has_0 1 (some .boolean) (xr 1 0 0 25) [.ref (kA σ 20 ch)] (kmix σ gF) (fun r g1 => r = some (.int (if ((kO σ 0 ch 0).isSome) = true then 1 else 0)) ∧ g1 = kmix σ gF) := by
  refine xMet.of h0 (by decide +kernel) rfl ?_
  intro p e s m args below meth c hC hr hnm
  refine x_aloadr_n hC dX2_lambda_has_0_0 (q := 1) rfl rfl ?_
  refine x_get hC xf_X2_335_5 dX2_lambda_has_0_1 (q := 4) rfl (n := (20, ch)) (kg_20 ch hc) rfl ?_
  refine x_ifnull hC dX2_lambda_has_0_4 (q := 7) rfl (tgt := 11) rfl (fun h4 => ?_) (fun a4 h4 => ?_)
  · have hno : kO σ 0 ch 0 = none := by
      cases hk : kO σ 0 ch 0 with
      | none => rfl
      | some q => rw [hk] at h4; cases h4
    refine x_iconst hC dX2_lambda_has_0_11 (q := 12) rfl (v := (0)) (by decide) ?_
    exact x_zret hC hr rfl dX2_lambda_has_0_12 (Nat.le_of_ble_eq_true rfl) (Nat.le_of_ble_eq_true rfl) (by first | exact ⟨by rw [hno]; rfl, rfl⟩ | exact ⟨by rw [hys]; rfl, rfl⟩)
  have hys : (kO σ 0 ch 0).isSome = true := by
    cases hk : kO σ 0 ch 0 with
    | none => rw [hk] at h4; cases h4
    | some q => rfl
  refine x_iconst hC dX2_lambda_has_0_7 (q := 8) rfl (v := (1)) (by decide) ?_
  refine x_goto hC dX2_lambda_has_0_8 (tgt := 12) rfl ?_
  exact x_zret hC hr rfl dX2_lambda_has_0_12 (Nat.le_of_ble_eq_true rfl) (Nat.le_of_ble_eq_true rfl) (by first | exact ⟨by rw [hno]; rfl, rfl⟩ | exact ⟨by rw [hys]; rfl, rfl⟩)

set_option maxHeartbeats 4000000 in
set_option maxRecDepth 100000 in
theorem m_X2_lambda_has_1 {l : Launch} {s0 : State} {D : va_G} (h0 : x0 l s0 D) (σ : KS) (gF : xG) (ch : Nat) (hc : ch < kA σ 61 0) : xMet l s0 D yX2_lambda_has_1 cX2_lambda_has_1 1 (some .boolean) (xr 1 0 0 25) [.ref (kA σ 20 ch)] (kmix σ gF) (fun r g1 => r = some (.int (if (!decide (iI (kI σ 34 ch) = -1)) = true then 1 else 0)) ∧ g1 = kmix σ gF) := by
  refine xMet.of h0 (by decide +kernel) rfl ?_
  intro p e s m args below meth c hC hr hnm
  refine x_aloadr_n hC dX2_lambda_has_1_0 (q := 1) rfl rfl ?_
  refine x_callV hC xv_X2_321 dX2_lambda_has_1_1 (q := 4) rfl rfl (m_X8_isFired h0 σ gF ch hc) (nn := (20, ch)) (kg_20 ch hc) rfl rfl (Nat.le_of_ble_eq_true rfl) ⟨(Nat.le_of_ble_eq_true rfl), (Nat.le_of_ble_eq_true rfl)⟩ ⟨(Nat.le_of_ble_eq_true rfl), (Nat.le_of_ble_eq_true rfl)⟩ (fun v g1 hp => ?_)
  obtain ⟨rfl, hg1⟩ := hp
  replace hg1 := hg1.symm
  subst hg1
  exact x_zret hC hr (by split <;> rfl) dX2_lambda_has_1_4 (Nat.le_of_ble_eq_true rfl) (Nat.le_of_ble_eq_true rfl) ⟨by by_cases h : iI (kI σ 34 ch) = -1 <;> simp [h], rfl⟩

set_option maxHeartbeats 4000000 in
set_option maxRecDepth 100000 in
theorem m_X2_lambda_has_2 {l : Launch} {s0 : State} {D : va_G} (h0 : x0 l s0 D) (σ : KS) (gF : xG) (ch : Nat) (hc : ch < kA σ 61 0) (h01 : iI (kI σ 36 ch) = 0 ∨ iI (kI σ 36 ch) = 1) : xMet l s0 D yX2_lambda_has_2 cX2_lambda_has_2 1 (some .boolean) (xr 1 0 0 25) [.ref (kA σ 20 ch)] (kmix σ gF) (fun r g1 => r = some (.int (if (decide (iI (kI σ 36 ch) = 1)) = true then 1 else 0)) ∧ g1 = kmix σ gF) := by
  refine xMet.of h0 (by decide +kernel) rfl ?_
  intro p e s m args below meth c hC hr hnm
  refine x_aloadr_n hC dX2_lambda_has_2_0 (q := 1) rfl rfl ?_
  refine x_get hC xf_X2_373_5 dX2_lambda_has_2_1 (q := 4) rfl (n := (20, ch)) (kg_20 ch hc) rfl ?_
  exact x_zret hC hr (by rcases h01 with h | h <;> rw [h] <;> rfl) dX2_lambda_has_2_4 (Nat.le_of_ble_eq_true rfl) (Nat.le_of_ble_eq_true rfl) ⟨by rcases h01 with h | h <;> rw [h] <;> rfl, rfl⟩

set_option maxHeartbeats 4000000 in
set_option maxRecDepth 100000 in
theorem m_X2_lambda_has_3 {l : Launch} {s0 : State} {D : va_G} (h0 : x0 l s0 D) (σ : KS) (gF : xG) (kq : Nat) (hq : kq < kA σ 62 0) : xMet l s0 D yX2_lambda_has_3 cX2_lambda_has_3 1 (some .boolean) (xr 1 0 0 25) [.ref (kA σ 21 kq)] (kmix σ gF) (fun r g1 => r = some (.int (if (!decide (iI (kI σ 41 kq) = -1)) = true then 1 else 0)) ∧ g1 = kmix σ gF) := by
  refine xMet.of h0 (by decide +kernel) rfl ?_
  intro p e s m args below meth c hC hr hnm
  refine x_aloadr_n hC dX2_lambda_has_3_0 (q := 1) rfl rfl ?_
  refine x_callV hC xv_X2_234 dX2_lambda_has_3_1 (q := 4) rfl rfl (m_X9_isLit h0 σ gF kq hq) (nn := (21, kq)) (kg_21 kq hq) rfl rfl (Nat.le_of_ble_eq_true rfl) ⟨(Nat.le_of_ble_eq_true rfl), (Nat.le_of_ble_eq_true rfl)⟩ ⟨(Nat.le_of_ble_eq_true rfl), (Nat.le_of_ble_eq_true rfl)⟩ (fun v g1 hp => ?_)
  obtain ⟨rfl, hg1⟩ := hp
  replace hg1 := hg1.symm
  subst hg1
  exact x_zret hC hr (by split <;> rfl) dX2_lambda_has_3_4 (Nat.le_of_ble_eq_true rfl) (Nat.le_of_ble_eq_true rfl) ⟨by by_cases h : iI (kI σ 41 kq) = -1 <;> simp [h], rfl⟩

set_option maxHeartbeats 4000000 in
set_option maxRecDepth 100000 in
theorem m_X2_has_4 {l : Launch} {s0 : State} {D : va_G} (h0 : x0 l s0 D) (σ : KS) (gF : xG) (hw : KW σ) : xMet l s0 D yX2_has cX2_has 2 (some .int) (xr 10 0 0 3100) [.ref (kA σ 0 0), .int 4] (kmix σ gF) (fun r g1 => r = some (.int (nI (kCn (fun h => (kO σ 0 h 0).isSome) (kA σ 61 0)))) ∧ g1 = kmix σ gF) := by
  refine xMet.ofN h0 (by decide +kernel) rfl ?_
  intro p e s m args below meth c hC hr hnm hnd
  refine x_iload_n hC dX2_has_0 (q := 1) rfl rfl ?_
  refine x_tableIn hC dX2_has_1 (by decide) (by decide) (off := 86) (by decide) (tgt := 87) rfl ?_
  refine x_aloadr_n hC dX2_has_87 (q := 88) rfl rfl ?_
  refine x_get hC xf_X2_20_1 dX2_has_88 (q := 91) rfl (n := (0, 0)) rfl rfl ?_
  refine x_get hC xf_X2_143_2 dX2_has_91 (q := 94) rfl (n := (3, 0)) rfl rfl ?_
  refine x_indyC hC hnd (index := 353) (σ := xsh_1) xlw_1 rfl dX2_has_94 (q := 99) rfl (Nat.le_of_ble_eq_true rfl) (Nat.le_of_ble_eq_true rfl) (fun aL haL => ?_)
  refine x_callS hC xv_X2_356 dX2_has_99 (q := 102) rfl rfl (m_X2_many h0 (kmix σ gF) (n := (4, 0)) rfl (by have := hw.1; have := hw.2.1; omega) (sh := xsh_1) (by0 := xby_1) (aL := aL) (b := fun h => (kO σ 0 h 0).isSome) (el := fun h => kA σ 20 h) (fun h hh => m_childAt h0 σ gF hw.c61 h hh) (by decide +kernel) (fun h hh => xl_lamb_1 h0 haL (nn := (20, h)) (kg_20 h hh) (m_X2_lambda_has_0 h0 σ gF h hh) (fun v g1 hq => ⟨_, hq.1⟩) (fun x g1 hq => by
        have h2 := Value.int.inj (Option.some.inj hq.1)
        rw [h2]
        split <;> first | exact Or.inr rfl | exact Or.inl rfl))) rfl (Nat.le_of_ble_eq_true rfl) ⟨(Nat.le_of_ble_eq_true rfl), (Nat.le_of_ble_eq_true rfl)⟩ ⟨(Nat.le_of_ble_eq_true rfl), (Nat.le_of_ble_eq_true rfl)⟩ (fun v g1 hp => ?_)
  obtain ⟨rfl, hg1⟩ := hp
  replace hg1 := hg1.symm
  subst hg1
  exact x_iret hC hr dX2_has_102 (Nat.le_of_ble_eq_true rfl) (Nat.le_of_ble_eq_true rfl) ⟨rfl, rfl⟩

set_option maxHeartbeats 4000000 in
set_option maxRecDepth 100000 in
theorem m_X2_has_5 {l : Launch} {s0 : State} {D : va_G} (h0 : x0 l s0 D) (σ : KS) (gF : xG) (hw : KW σ) : xMet l s0 D yX2_has cX2_has 2 (some .int) (xr 10 0 0 3100) [.ref (kA σ 0 0), .int 5] (kmix σ gF) (fun r g1 => r = some (.int (nI (kCn (fun h => !decide (iI (kI σ 34 h) = -1)) (kA σ 61 0)))) ∧ g1 = kmix σ gF) := by
  refine xMet.ofN h0 (by decide +kernel) rfl ?_
  intro p e s m args below meth c hC hr hnm hnd
  refine x_iload_n hC dX2_has_0 (q := 1) rfl rfl ?_
  refine x_tableIn hC dX2_has_1 (by decide) (by decide) (off := 102) (by decide) (tgt := 103) rfl ?_
  refine x_aloadr_n hC dX2_has_103 (q := 104) rfl rfl ?_
  refine x_get hC xf_X2_20_1 dX2_has_104 (q := 107) rfl (n := (0, 0)) rfl rfl ?_
  refine x_get hC xf_X2_143_2 dX2_has_107 (q := 110) rfl (n := (3, 0)) rfl rfl ?_
  refine x_indyC hC hnd (index := 360) (σ := xsh_2) xlw_2 rfl dX2_has_110 (q := 115) rfl (Nat.le_of_ble_eq_true rfl) (Nat.le_of_ble_eq_true rfl) (fun aL haL => ?_)
  refine x_callS hC xv_X2_356 dX2_has_115 (q := 118) rfl rfl (m_X2_many h0 (kmix σ gF) (n := (4, 0)) rfl (by have := hw.1; have := hw.2.1; omega) (sh := xsh_2) (by0 := xby_2) (aL := aL) (b := fun h => !decide (iI (kI σ 34 h) = -1)) (el := fun h => kA σ 20 h) (fun h hh => m_childAt h0 σ gF hw.c61 h hh) (by decide +kernel) (fun h hh => xl_lamb_2 h0 haL (nn := (20, h)) (kg_20 h hh) (m_X2_lambda_has_1 h0 σ gF h hh) (fun v g1 hq => ⟨_, hq.1⟩) (fun x g1 hq => by
        have h2 := Value.int.inj (Option.some.inj hq.1)
        rw [h2]
        split <;> first | exact Or.inr rfl | exact Or.inl rfl))) rfl (Nat.le_of_ble_eq_true rfl) ⟨(Nat.le_of_ble_eq_true rfl), (Nat.le_of_ble_eq_true rfl)⟩ ⟨(Nat.le_of_ble_eq_true rfl), (Nat.le_of_ble_eq_true rfl)⟩ (fun v g1 hp => ?_)
  obtain ⟨rfl, hg1⟩ := hp
  replace hg1 := hg1.symm
  subst hg1
  exact x_iret hC hr dX2_has_118 (Nat.le_of_ble_eq_true rfl) (Nat.le_of_ble_eq_true rfl) ⟨rfl, rfl⟩

set_option maxHeartbeats 4000000 in
set_option maxRecDepth 100000 in
theorem m_X2_has_6 {l : Launch} {s0 : State} {D : va_G} (h0 : x0 l s0 D) (σ : KS) (gF : xG) (hw : KW σ) (h01 : ∀ h, h < kA σ 61 0 → iI (kI σ 36 h) = 0 ∨ iI (kI σ 36 h) = 1) : xMet l s0 D yX2_has cX2_has 2 (some .int) (xr 10 0 0 3100) [.ref (kA σ 0 0), .int 6] (kmix σ gF) (fun r g1 => r = some (.int (nI (kCn (fun h => decide (iI (kI σ 36 h) = 1)) (kA σ 61 0)))) ∧ g1 = kmix σ gF) := by
  refine xMet.ofN h0 (by decide +kernel) rfl ?_
  intro p e s m args below meth c hC hr hnm hnd
  refine x_iload_n hC dX2_has_0 (q := 1) rfl rfl ?_
  refine x_tableIn hC dX2_has_1 (by decide) (by decide) (off := 118) (by decide) (tgt := 119) rfl ?_
  refine x_aloadr_n hC dX2_has_119 (q := 120) rfl rfl ?_
  refine x_get hC xf_X2_20_1 dX2_has_120 (q := 123) rfl (n := (0, 0)) rfl rfl ?_
  refine x_get hC xf_X2_143_2 dX2_has_123 (q := 126) rfl (n := (3, 0)) rfl rfl ?_
  refine x_indyC hC hnd (index := 361) (σ := xsh_3) xlw_3 rfl dX2_has_126 (q := 131) rfl (Nat.le_of_ble_eq_true rfl) (Nat.le_of_ble_eq_true rfl) (fun aL haL => ?_)
  refine x_callS hC xv_X2_356 dX2_has_131 (q := 134) rfl rfl (m_X2_many h0 (kmix σ gF) (n := (4, 0)) rfl (by have := hw.1; have := hw.2.1; omega) (sh := xsh_3) (by0 := xby_3) (aL := aL) (b := fun h => decide (iI (kI σ 36 h) = 1)) (el := fun h => kA σ 20 h) (fun h hh => m_childAt h0 σ gF hw.c61 h hh) (by decide +kernel) (fun h hh => xl_lamb_3 h0 haL (nn := (20, h)) (kg_20 h hh) (m_X2_lambda_has_2 h0 σ gF h hh (h01 h hh)) (fun v g1 hq => ⟨_, hq.1⟩) (fun x g1 hq => by
        have h2 := Value.int.inj (Option.some.inj hq.1)
        rw [h2]
        split <;> first | exact Or.inr rfl | exact Or.inl rfl))) rfl (Nat.le_of_ble_eq_true rfl) ⟨(Nat.le_of_ble_eq_true rfl), (Nat.le_of_ble_eq_true rfl)⟩ ⟨(Nat.le_of_ble_eq_true rfl), (Nat.le_of_ble_eq_true rfl)⟩ (fun v g1 hp => ?_)
  obtain ⟨rfl, hg1⟩ := hp
  replace hg1 := hg1.symm
  subst hg1
  exact x_iret hC hr dX2_has_134 (Nat.le_of_ble_eq_true rfl) (Nat.le_of_ble_eq_true rfl) ⟨rfl, rfl⟩

set_option maxHeartbeats 4000000 in
set_option maxRecDepth 100000 in
theorem m_X2_has_7 {l : Launch} {s0 : State} {D : va_G} (h0 : x0 l s0 D) (σ : KS) (gF : xG) (hw : KW σ) : xMet l s0 D yX2_has cX2_has 2 (some .int) (xr 10 0 0 3100) [.ref (kA σ 0 0), .int 7] (kmix σ gF) (fun r g1 => r = some (.int (nI (kCn (fun h => !decide (iI (kI σ 41 h) = -1)) (kA σ 62 0)))) ∧ g1 = kmix σ gF) := by
  refine xMet.ofN h0 (by decide +kernel) rfl ?_
  intro p e s m args below meth c hC hr hnm hnd
  refine x_iload_n hC dX2_has_0 (q := 1) rfl rfl ?_
  refine x_tableIn hC dX2_has_1 (by decide) (by decide) (off := 134) (by decide) (tgt := 135) rfl ?_
  refine x_aloadr_n hC dX2_has_135 (q := 136) rfl rfl ?_
  refine x_get hC xf_X2_20_1 dX2_has_136 (q := 139) rfl (n := (0, 0)) rfl rfl ?_
  refine x_get hC xf_X2_152_2 dX2_has_139 (q := 142) rfl (n := (3, 0)) rfl rfl ?_
  refine x_indyC hC hnd (index := 362) (σ := xsh_4) xlw_4 rfl dX2_has_142 (q := 147) rfl (Nat.le_of_ble_eq_true rfl) (Nat.le_of_ble_eq_true rfl) (fun aL haL => ?_)
  refine x_callS hC xv_X2_356 dX2_has_147 (q := 150) rfl rfl (m_X2_many h0 (kmix σ gF) (n := (6, 0)) rfl (by have := hw.1; have := hw.2.1; omega) (sh := xsh_4) (by0 := xby_4) (aL := aL) (b := fun h => !decide (iI (kI σ 41 h) = -1)) (el := fun h => kA σ 21 h) (fun h hh => m_kilnAt h0 σ gF hw.c62 h hh) (by decide +kernel) (fun h hh => xl_lamb_4 h0 haL (nn := (21, h)) (kg_21 h hh) (m_X2_lambda_has_3 h0 σ gF h hh) (fun v g1 hq => ⟨_, hq.1⟩) (fun x g1 hq => by
        have h2 := Value.int.inj (Option.some.inj hq.1)
        rw [h2]
        split <;> first | exact Or.inr rfl | exact Or.inl rfl))) rfl (Nat.le_of_ble_eq_true rfl) ⟨(Nat.le_of_ble_eq_true rfl), (Nat.le_of_ble_eq_true rfl)⟩ ⟨(Nat.le_of_ble_eq_true rfl), (Nat.le_of_ble_eq_true rfl)⟩ (fun v g1 hp => ?_)
  obtain ⟨rfl, hg1⟩ := hp
  replace hg1 := hg1.symm
  subst hg1
  exact x_iret hC hr dX2_has_150 (Nat.le_of_ble_eq_true rfl) (Nat.le_of_ble_eq_true rfl) ⟨rfl, rfl⟩
