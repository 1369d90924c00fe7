/-! heats -/
/-- a heat is good for a child at a place -/
def kGd (F : Nat → Option (aEnv → Int64)) (σ : KS) (ch : Nat) (y lo hi : Int32) (x : Int32) : Bool := decide ((lo.toInt64 ≤ (kTemp F σ ch x y).toInt64 ∧ (kTemp F σ ch x y).toInt64 ≤ hi.toInt64) ∧ kCrack F σ ch x y = 0)
theorem xlay_5 : xla_5.2.1 = #[.object "KilnBench", .object "KilnBench$Child", .int, .int, .int] := by decide +kernel

set_option maxHeartbeats 4000000 in
set_option maxRecDepth 100000 in
theorem m_X2_lambda_heats_4 {l : Launch} {s0 : State} {D : va_G} (h0 : x0 l s0 D) (σ : KS) (gF : xG) (f : aEnv) {F : Nat → Option (aEnv → Int64)} (hF : kF gF σ F) (ch : Nat) (hc : ch < kA σ 61 0) (y lo hi x : Int32) : xMet l s0 D yX2_lambda_heats_4 cX2_lambda_heats_4 6 (some .boolean) (xr 39 0 0 1590) [.ref (kA σ 0 0), .ref (kA σ 20 ch), .int y, .int lo, .int hi, .int x] (kmix (kT σ f) gF) (fun r g1 => ∃ f1, r = some (.int (if kGd F σ ch y lo hi x = true then 1 else 0)) ∧ g1 = kmix (kT σ f1) gF) := by
  refine xMet.of h0 (by decide +kernel) rfl ?_
  intro p e s m args below meth c hC hr hnm
  refine x_aloadr_n hC dX2_lambda_heats_4_0 (q := 1) rfl rfl ?_
  refine x_aloadr_n hC dX2_lambda_heats_4_1 (q := 2) rfl rfl ?_
  refine x_iload hC dX2_lambda_heats_4_2 (q := 4) rfl rfl ?_
  refine x_iload_n hC dX2_lambda_heats_4_4 (q := 5) rfl rfl ?_
  refine x_callV hC xv_X2_192 dX2_lambda_heats_4_5 (q := 8) rfl rfl (m_X2_temperOf h0 σ gF f hF ch hc x y) (nn := (0, 0)) rfl rfl rfl (Nat.le_of_ble_eq_true rfl) ⟨(Nat.le_of_ble_eq_true rfl), (Nat.le_of_ble_eq_true rfl)⟩ ⟨(Nat.le_of_ble_eq_true rfl), (Nat.le_of_ble_eq_true rfl)⟩ (fun v g1 hp => ?_)
  obtain ⟨f1, rfl, hg1⟩ := hp
  replace hg1 := hg1.symm
  subst hg1
  refine x_i2l hC dX2_lambda_heats_4_8 (q := 9) rfl ?_
  refine x_iload_n hC dX2_lambda_heats_4_9 (q := 10) rfl rfl ?_
  refine x_i2l hC dX2_lambda_heats_4_10 (q := 11) rfl ?_
  refine x_iload hC dX2_lambda_heats_4_11 (q := 13) rfl rfl ?_
  refine x_i2l hC dX2_lambda_heats_4_13 (q := 14) rfl ?_
  refine x_callS hC xv_X2_95 dX2_lambda_heats_4_14 (q := 17) rfl rfl (m_X2_isIn h0 _ _ _ _) rfl (Nat.le_of_ble_eq_true rfl) ⟨(Nat.le_of_ble_eq_true rfl), (Nat.le_of_ble_eq_true rfl)⟩ ⟨(Nat.le_of_ble_eq_true rfl), (Nat.le_of_ble_eq_true rfl)⟩ (fun v g1 hp => ?_)
  obtain ⟨rfl, hg1⟩ := hp
  replace hg1 := hg1.symm
  subst hg1
  refine x_if_eq hC dX2_lambda_heats_4_17 (q := 20) rfl (tgt := 35) rfl (fun h17 => ?_) (fun h17 => ?_)
  · have hno : kGd F σ ch y lo hi x = false := decide_eq_false (fun q => by rw [if_pos q.1] at h17; exact absurd h17 (by decide))
    refine x_iconst hC dX2_lambda_heats_4_35 (q := 36) rfl (v := (0)) (by decide) ?_
    exact x_zret hC hr rfl dX2_lambda_heats_4_36 (Nat.le_of_ble_eq_true rfl) (Nat.le_of_ble_eq_true rfl) (by first | exact ⟨f1, by rw [hno]; rfl, rfl⟩ | exact ⟨f2, by rw [hno]; rfl, rfl⟩ | exact ⟨f2, by rw [hys]; rfl, rfl⟩)
  have hin : lo.toInt64 ≤ (kTemp F σ ch x y).toInt64 ∧ (kTemp F σ ch x y).toInt64 ≤ hi.toInt64 := by
    by_cases q : lo.toInt64 ≤ (kTemp F σ ch x y).toInt64 ∧ (kTemp F σ ch x y).toInt64 ≤ hi.toInt64
    · exact q
    · rw [if_neg q] at h17; exact absurd rfl h17
  refine x_aloadr_n hC dX2_lambda_heats_4_20 (q := 21) rfl rfl ?_
  refine x_aloadr_n hC dX2_lambda_heats_4_21 (q := 22) rfl rfl ?_
  refine x_iload hC dX2_lambda_heats_4_22 (q := 24) rfl rfl ?_
  refine x_iload_n hC dX2_lambda_heats_4_24 (q := 25) rfl rfl ?_
  refine x_callV hC xv_X2_383 dX2_lambda_heats_4_25 (q := 28) rfl rfl (m_X2_doesCrack h0 σ gF f1 hF ch hc x y) (nn := (0, 0)) rfl rfl rfl (Nat.le_of_ble_eq_true rfl) ⟨(Nat.le_of_ble_eq_true rfl), (Nat.le_of_ble_eq_true rfl)⟩ ⟨(Nat.le_of_ble_eq_true rfl), (Nat.le_of_ble_eq_true rfl)⟩ (fun v g1 hp => ?_)
  obtain ⟨f2, rfl, hg1⟩ := hp
  replace hg1 := hg1.symm
  subst hg1
  refine x_if_ne hC dX2_lambda_heats_4_28 (q := 31) rfl (tgt := 35) rfl (fun h28 => ?_) (fun h28 => ?_)
  · have hno : kGd F σ ch y lo hi x = false := decide_eq_false (fun q => h28 q.2)
    refine x_iconst hC dX2_lambda_heats_4_35 (q := 36) rfl (v := (0)) (by decide) ?_
    exact x_zret hC hr rfl dX2_lambda_heats_4_36 (Nat.le_of_ble_eq_true rfl) (Nat.le_of_ble_eq_true rfl) (by first | exact ⟨f1, by rw [hno]; rfl, rfl⟩ | exact ⟨f2, by rw [hno]; rfl, rfl⟩ | exact ⟨f2, by rw [hys]; rfl, rfl⟩)
  have hys : kGd F σ ch y lo hi x = true := decide_eq_true ⟨hin, h28⟩
  refine x_iconst hC dX2_lambda_heats_4_31 (q := 32) rfl (v := (1)) (by decide) ?_
  refine x_goto hC dX2_lambda_heats_4_32 (tgt := 36) rfl ?_
  exact x_zret hC hr rfl dX2_lambda_heats_4_36 (Nat.le_of_ble_eq_true rfl) (Nat.le_of_ble_eq_true rfl) (by first | exact ⟨f1, by rw [hno]; rfl, rfl⟩ | exact ⟨f2, by rw [hno]; rfl, rfl⟩ | exact ⟨f2, by rw [hys]; rfl, rfl⟩)

set_option maxHeartbeats 4000000 in
set_option maxRecDepth 100000 in
theorem m_X2_heats {l : Launch} {s0 : State} {D : va_G} (h0 : x0 l s0 D) (σ : KS) (gF : xG) (f : aEnv) {F : Nat → Option (aEnv → Int64)} (hF : kF gF σ F) (ch : Nat) (hc : ch < kA σ 61 0) (hw : KW (kT σ f)) (y lo hi : Int32) (hy : 0 ≤ y.toInt ∧ y.toInt ≤ 5) (hL0 : gF (2000, 0) = none) : xMet l s0 D yX2_heats cX2_heats 6 (some .int) (xr 44 1 5 3100) [.ref (kA σ 0 0), .int (nI ch), .int y, .int lo, .int hi] (kmix (kT σ f) gF) (fun r g1 => ∃ f1, r = some (.int (kAH (fun h => kGd F σ ch y lo hi (nI h)) 21)) ∧ g1 = kmix (kT σ f1) gF) := by
  refine xMet.ofN h0 (by decide +kernel) rfl ?_
  intro p e s m args below meth c hC hr hnm hnd
  refine x_aloadr_n hC dX2_heats_0 (q := 1) rfl rfl ?_
  refine x_iload_n hC dX2_heats_1 (q := 2) rfl rfl ?_
  refine x_callV hC xv_X2_313 dX2_heats_2 (q := 5) rfl rfl (m_X2_childOf h0 (kT σ f) gF hw ch hc) (nn := (0, 0)) rfl rfl rfl (Nat.le_of_ble_eq_true rfl) ⟨(Nat.le_of_ble_eq_true rfl), (Nat.le_of_ble_eq_true rfl)⟩ ⟨(Nat.le_of_ble_eq_true rfl), (Nat.le_of_ble_eq_true rfl)⟩ (fun v g1 hp => ?_)
  obtain ⟨rfl, hg1⟩ := hp
  replace hg1 := hg1.symm
  subst hg1
  refine x_astorer hC dX2_heats_5 (q := 7) rfl rfl ?_
  refine x_aloadr_n hC dX2_heats_7 (q := 8) rfl rfl ?_
  refine x_aloadr hC dX2_heats_8 (q := 10) rfl rfl ?_
  refine x_iconst hC dX2_heats_10 (q := 11) rfl (v := (0)) (by decide) ?_
  refine x_iload_n hC dX2_heats_11 (q := 12) rfl rfl ?_
  refine x_callV hC xv_X2_379 dX2_heats_12 (q := 15) rfl rfl (m_X2_areThere h0 σ gF f ch hc 0 y ⟨by decide, by decide⟩ hy) (nn := (0, 0)) rfl rfl rfl (Nat.le_of_ble_eq_true rfl) ⟨(Nat.le_of_ble_eq_true rfl), (Nat.le_of_ble_eq_true rfl)⟩ ⟨(Nat.le_of_ble_eq_true rfl), (Nat.le_of_ble_eq_true rfl)⟩ (fun v g1 hp => ?_)
  obtain ⟨rfl, hg1⟩ := hp
  replace hg1 := hg1.symm
  subst hg1
  refine x_if_eq hC dX2_heats_15 (q := 18) rfl (tgt := 36) rfl (fun h15 => ?_) (fun h15 => ?_)
  · exact absurd h15 (by decide)
  refine x_aloadr_n hC dX2_heats_18 (q := 19) rfl rfl ?_
  refine x_aloadr hC dX2_heats_19 (q := 21) rfl rfl ?_
  refine x_iload_n hC dX2_heats_21 (q := 22) rfl rfl ?_
  refine x_iload_n hC dX2_heats_22 (q := 23) rfl rfl ?_
  refine x_iload hC dX2_heats_23 (q := 25) rfl rfl ?_
  refine x_indy hC hnd (index := 390) (ci := 105) (vals := [.ref (kA σ 0 0), .ref (kA σ 20 ch), .int y, .int lo, .int hi]) (rest := []) (2000, 0) xlw_5 (fun _ => rfl) rfl rfl rfl xfi_5 xli_5 (by rw [xlay_5]; rfl) rfl (fun i v hv => by
      rw [xlay_5]
      rcases i with _ | _ | _ | _ | _ | i <;> first | (cases hv; rfl) | cases hv) dX2_heats_25 (q := 30) rfl rfl hL0 rfl (Nat.le_of_ble_eq_true rfl) (Nat.le_of_ble_eq_true rfl) (Nat.le_of_ble_eq_true rfl) (Nat.le_of_ble_eq_true rfl) (fun aL => ?_)
  refine x_geq (g' := kmix (kT σ f) (xu gF (2000, 0) (some (aL, .inr (105, [.ref (kA σ 0 0), .ref (kA σ 20 ch), .int y, .int lo, .int hi]))))) (kmix_xuF _ _ _ _ rfl) ?_
  refine x_callS hC xv_X2_393 dX2_heats_30 (q := 33) rfl rfl (m_X2_allHeats h0 σ (xu gF (2000, 0) (some (aL, .inr (105, [.ref (kA σ 0 0), .ref (kA σ 20 ch), .int y, .int lo, .int hi])))) f (sh := xsh_5) (by0 := xby_5) (aL := aL) (b := fun h => kGd F σ ch y lo hi (nI h)) (by decide +kernel) (fun h hh f2 => xl_lamb_5 h0 (n := (2000, 0)) rfl rfl (nn := (0, 0)) rfl (m_X2_lambda_heats_4 h0 σ (xu gF (2000, 0) (some (aL, .inr (105, [.ref (kA σ 0 0), .ref (kA σ 20 ch), .int y, .int lo, .int hi])))) f2 (kF_mono hF (xu_sub hL0)) ch hc y lo hi (nI h)) (fun v g1 hq => ⟨_, hq.choose_spec.1⟩) (fun x g1 hq => by
        have h2 := Option.some.inj hq.choose_spec.1
        have h2 := Value.int.inj h2
        rw [h2]
        split <;> first | exact Or.inr rfl | exact Or.inl rfl))) rfl (Nat.le_of_ble_eq_true rfl) ⟨(Nat.le_of_ble_eq_true rfl), (Nat.le_of_ble_eq_true rfl)⟩ ⟨(Nat.le_of_ble_eq_true rfl), (Nat.le_of_ble_eq_true rfl)⟩ (fun v g1 hp => ?_)
  obtain ⟨f1, rfl, hg1⟩ := hp
  replace hg1 := hg1.symm
  subst hg1
  refine x_sub (g' := kmix (kT σ f1) gF) (xu_back hL0) ?_
  refine x_goto hC dX2_heats_33 (tgt := 37) rfl ?_
  exact x_iret hC hr dX2_heats_37 (Nat.le_of_ble_eq_true rfl) (Nat.le_of_ble_eq_true rfl) ⟨f1, rfl, rfl⟩
