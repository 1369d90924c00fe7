/-! which heats give the rings that are asked for -/
theorem kAH_t {b : Nat → Bool} {n : Nat} (h : b n = true) : kAH b (n + 1) = kAH b n ||| ((1 : Int32) <<< (nI n &&& 31)) := by
  show (if b n then _ else _) = _
  rw [h]; rfl
theorem kAH_f {b : Nat → Bool} {n : Nat} (h : b n = false) : kAH b (n + 1) = kAH b n ||| 0 := by
  show (if b n then _ else kAH b n) = _
  rw [h, Int32.or_zero]; rfl

set_option maxHeartbeats 4000000 in
set_option maxRecDepth 100000 in
theorem m_X0_areHeats {l : Launch} {s0 : State} {D : va_G} (h0 : x0 l s0 D) (σ : KS) (gF : xG) (f : aEnv) {F : Nat → Option (aEnv → Int64)} (hF : kF gF σ F) (hw : KW σ) {c p : Nat} (hc : c < kA σ 61 0) (hp5 : p ≤ 5) (lo hi : Int32) (hL0 : gF (2000, 0) = none) : xMet l s0 D yX0_areHeats cX0_areHeats 8 (some .boolean) (xr 45 1 5 3200) [.ref (kA σ 0 0), .int (nI c), .int (nI p), .int lo, .int hi] (kmix (kT σ f) gF) (fun r g1 => r = some (.int 1) ∧ ∃ f1, g1 = kmix (kT σ f1) gF) := by
  refine xMet.of h0 (by decide +kernel) rfl ?_
  intro zp ze zs zm za zb zf zc hC hr hnm
  refine x_iconst hC dX0_areHeats_0 (q := 1) rfl (v := (0)) (by decide) ?_
  refine x_istore hC dX0_areHeats_1 (q := 3) rfl rfl ?_
  refine x_iconst hC dX0_areHeats_3 (q := 4) rfl (v := (0)) (by decide) ?_
  refine x_istore hC dX0_areHeats_4 (q := 6) rfl rfl ?_
  refine x_loop (S := (fun x : Nat × aEnv × Option Value => ((0 : Nat), (0 : Nat), kmix (kT σ x.2.1) gF, ([some (.ref (kA σ 0 0)), some (.int (nI c)), some (.int (nI p)), some (.int lo), some (.int hi), some (.int (kAH (fun h : Nat => kGd F σ c (nI p) lo hi (nI h)) x.1)), some (.int (nI x.1)), x.2.2] : xL), ([] : List Value)))) (Inv := fun x => x.1 ≤ 21) (μ := fun x => 21 - x.1) ?_ (0, f, none) (Nat.zero_le _)
  intro x hi1 ih
  obtain ⟨h, f1, y6⟩ := x
  dsimp only at hi1 ih ⊢
  refine x_iload hC dX0_areHeats_6 (q := 8) rfl rfl ?_
  refine x_bipush hC dX0_areHeats_8 (q := 10) rfl (v := (20)) (by decide) ?_
  refine x_icmp_gt hC dX0_areHeats_10 (q := 13) rfl (tgt := 66) rfl (fun h10 => ?_) (fun h10 => ?_)
  · have hh1 : h = 21 := by
      have := Nat.not_le.mp (fun w => absurd (nI_le (b := 20) w (by decide)) (Int32.not_le.mpr h10))
      omega
    subst hh1
    refine x_aloadr_n hC dX0_areHeats_66 (q := 67) rfl rfl ?_
    refine x_iload_n hC dX0_areHeats_67 (q := 68) rfl rfl ?_
    refine x_iload_n hC dX0_areHeats_68 (q := 69) rfl rfl ?_
    refine x_iload_n hC dX0_areHeats_69 (q := 70) rfl rfl ?_
    refine x_iload hC dX0_areHeats_70 (q := 72) rfl rfl ?_
    refine x_callV hC xv_X0_112 dX0_areHeats_72 (q := 75) rfl rfl (m_X2_heats h0 σ gF _ hF c hc hw (nI p) lo hi ⟨by rw [nI_toInt (by omega)]; omega, by rw [nI_toInt (by omega)]; omega⟩ hL0) (nn := (0, 0)) rfl rfl rfl (Nat.le_of_ble_eq_true rfl) ⟨(by (try dsimp only); omega), (by (try dsimp only); omega)⟩ ⟨(by (try dsimp only); omega), (by (try dsimp only); omega)⟩ (fun v g1 hp => ?_)
    obtain ⟨f2, rfl, hg1⟩ := hp
    subst hg1
    refine x_iload hC dX0_areHeats_75 (q := 77) rfl rfl ?_
    refine x_icmp_ne hC dX0_areHeats_77 (q := 80) rfl (tgt := 84) rfl (fun h77 => ?_) (fun h77 => ?_)
    · exact absurd rfl h77
    refine x_iconst hC dX0_areHeats_80 (q := 81) rfl (v := (1)) (by decide) ?_
    refine x_goto hC dX0_areHeats_81 (tgt := 85) rfl ?_
    exact x_zret hC hr rfl dX0_areHeats_85 (by (try dsimp only); omega) (by (try dsimp only); omega) ⟨rfl, _, rfl⟩
  have hh1 : h ≤ 20 := Nat.not_lt.mp (fun w => h10 (nI_lt (a := 20) w (by omega)))
  refine x_aloadr_n hC dX0_areHeats_13 (q := 14) rfl rfl ?_
  refine x_iload_n hC dX0_areHeats_14 (q := 15) rfl rfl ?_
  refine x_iload hC dX0_areHeats_15 (q := 17) rfl rfl ?_
  refine x_iload_n hC dX0_areHeats_17 (q := 18) rfl rfl ?_
  refine x_callV hC xv_X0_97 dX0_areHeats_18 (q := 21) rfl rfl (m_X2_rings h0 σ gF _ hF hw c hc (nI h) (nI p) ⟨by rw [nI_toInt (by omega)]; omega, by rw [nI_toInt (by omega)]; omega⟩ ⟨by rw [nI_toInt (by omega)]; omega, by rw [nI_toInt (by omega)]; omega⟩) (nn := (0, 0)) rfl rfl rfl (Nat.le_of_ble_eq_true rfl) ⟨(Nat.le_of_ble_eq_true rfl), (Nat.le_of_ble_eq_true rfl)⟩ ⟨(Nat.le_of_ble_eq_true rfl), (Nat.le_of_ble_eq_true rfl)⟩ (fun v g1 hp => ?_)
  obtain ⟨f2, rfl, hg1⟩ := hp
  subst hg1
  refine x_istore hC dX0_areHeats_21 (q := 23) rfl rfl ?_
  refine x_iload hC dX0_areHeats_23 (q := 25) rfl rfl ?_
  refine x_iload hC dX0_areHeats_25 (q := 27) rfl rfl ?_
  refine x_iload_n hC dX0_areHeats_27 (q := 28) rfl rfl ?_
  refine x_icmp_lt hC dX0_areHeats_28 (q := 31) rfl (tgt := 56) rfl (fun h28 => ?_) (fun h28 => ?_)
  · have hg : kGd F σ c (nI p) lo hi (nI h) = false := by
      unfold kGd
      rw [decide_eq_false (fun q => absurd h28 (Int32.not_lt.mpr ((i64_le _ _).mp q.1.1)))]
    refine x_iconst hC dX0_areHeats_56 (q := 57) rfl (v := (0)) (by decide) ?_
    refine x_ior hC dX0_areHeats_57 (q := 58) rfl ?_
    refine x_istore hC dX0_areHeats_58 (q := 60) rfl rfl ?_
    refine x_iinc hC dX0_areHeats_60 (q := 63) rfl rfl (v := nI (h + 1)) (nI_1 h) ?_
    refine x_goto hC dX0_areHeats_63 (tgt := 6) rfl ?_
    refine x_lveq (lv' := [some (.ref (kA σ 0 0)), some (.int (nI c)), some (.int (nI p)), some (.int lo), some (.int hi), some (.int (kAH (fun h : Nat => kGd F σ c (nI p) lo hi (nI h)) (h + 1))), some (.int (nI (h + 1))), _]) (by first | (rw [kAH_t (b := (fun h : Nat => kGd F σ c (nI p) lo hi (nI h))) hg]; rfl) | (rw [kAH_f (b := (fun h : Nat => kGd F σ c (nI p) lo hi (nI h))) hg]; rfl)) ?_
    exact ih (h + 1, _, _) (by (try dsimp only); omega) (by (try dsimp only); omega)
  have h28x := Int32.not_lt.mp h28
  refine x_iload hC dX0_areHeats_31 (q := 33) rfl rfl ?_
  refine x_iload hC dX0_areHeats_33 (q := 35) rfl rfl ?_
  refine x_icmp_gt hC dX0_areHeats_35 (q := 38) rfl (tgt := 56) rfl (fun h35 => ?_) (fun h35 => ?_)
  · have hg : kGd F σ c (nI p) lo hi (nI h) = false := by
      unfold kGd
      rw [decide_eq_false (fun q => absurd h35 (Int32.not_lt.mpr ((i64_le _ _).mp q.1.2)))]
    refine x_iconst hC dX0_areHeats_56 (q := 57) rfl (v := (0)) (by decide) ?_
    refine x_ior hC dX0_areHeats_57 (q := 58) rfl ?_
    refine x_istore hC dX0_areHeats_58 (q := 60) rfl rfl ?_
    refine x_iinc hC dX0_areHeats_60 (q := 63) rfl rfl (v := nI (h + 1)) (nI_1 h) ?_
    refine x_goto hC dX0_areHeats_63 (tgt := 6) rfl ?_
    refine x_lveq (lv' := [some (.ref (kA σ 0 0)), some (.int (nI c)), some (.int (nI p)), some (.int lo), some (.int hi), some (.int (kAH (fun h : Nat => kGd F σ c (nI p) lo hi (nI h)) (h + 1))), some (.int (nI (h + 1))), _]) (by first | (rw [kAH_t (b := (fun h : Nat => kGd F σ c (nI p) lo hi (nI h))) hg]; rfl) | (rw [kAH_f (b := (fun h : Nat => kGd F σ c (nI p) lo hi (nI h))) hg]; rfl)) ?_
    exact ih (h + 1, _, _) (by (try dsimp only); omega) (by (try dsimp only); omega)
  have h35x := Int32.not_lt.mp h35
  refine x_aloadr_n hC dX0_areHeats_38 (q := 39) rfl rfl ?_
  refine x_iload_n hC dX0_areHeats_39 (q := 40) rfl rfl ?_
  refine x_iload hC dX0_areHeats_40 (q := 42) rfl rfl ?_
  refine x_iload_n hC dX0_areHeats_42 (q := 43) rfl rfl ?_
  refine x_callV hC xv_X0_106 dX0_areHeats_43 (q := 46) rfl rfl (m_X2_cracks h0 σ gF _ hF hw c hc (nI h) (nI p) ⟨by rw [nI_toInt (by omega)]; omega, by rw [nI_toInt (by omega)]; omega⟩ ⟨by rw [nI_toInt (by omega)]; omega, by rw [nI_toInt (by omega)]; omega⟩) (nn := (0, 0)) rfl rfl rfl (Nat.le_of_ble_eq_true rfl) ⟨(Nat.le_of_ble_eq_true rfl), (Nat.le_of_ble_eq_true rfl)⟩ ⟨(Nat.le_of_ble_eq_true rfl), (Nat.le_of_ble_eq_true rfl)⟩ (fun v g1 hp => ?_)
  obtain ⟨f2, rfl, hg1⟩ := hp
  subst hg1
  refine x_if_ne hC dX0_areHeats_46 (q := 49) rfl (tgt := 56) rfl (fun h46 => ?_) (fun h46 => ?_)
  · have hg : kGd F σ c (nI p) lo hi (nI h) = false := by
      unfold kGd
      rw [decide_eq_false (fun q => h46 (if_pos q.2))]
    refine x_iconst hC dX0_areHeats_56 (q := 57) rfl (v := (0)) (by decide) ?_
    refine x_ior hC dX0_areHeats_57 (q := 58) rfl ?_
    refine x_istore hC dX0_areHeats_58 (q := 60) rfl rfl ?_
    refine x_iinc hC dX0_areHeats_60 (q := 63) rfl rfl (v := nI (h + 1)) (nI_1 h) ?_
    refine x_goto hC dX0_areHeats_63 (tgt := 6) rfl ?_
    refine x_lveq (lv' := [some (.ref (kA σ 0 0)), some (.int (nI c)), some (.int (nI p)), some (.int lo), some (.int hi), some (.int (kAH (fun h : Nat => kGd F σ c (nI p) lo hi (nI h)) (h + 1))), some (.int (nI (h + 1))), _]) (by first | (rw [kAH_t (b := (fun h : Nat => kGd F σ c (nI p) lo hi (nI h))) hg]; rfl) | (rw [kAH_f (b := (fun h : Nat => kGd F σ c (nI p) lo hi (nI h))) hg]; rfl)) ?_
    exact ih (h + 1, _, _) (by (try dsimp only); omega) (by (try dsimp only); omega)
  have hck : kCrack F σ c (nI h) (nI p) = 0 := Classical.byContradiction (fun w => absurd ((if_neg w).symm.trans h46) (by decide))
  have hg : kGd F σ c (nI p) lo hi (nI h) = true := by
    unfold kGd
    rw [decide_eq_true (⟨⟨(i64_le _ _).mpr h28x, (i64_le _ _).mpr h35x⟩, hck⟩)]
  refine x_iconst hC dX0_areHeats_49 (q := 50) rfl (v := (1)) (by decide) ?_
  refine x_iload hC dX0_areHeats_50 (q := 52) rfl rfl ?_
  refine x_ishl hC dX0_areHeats_52 (q := 53) rfl ?_
  refine x_goto hC dX0_areHeats_53 (tgt := 57) rfl ?_
  refine x_ior hC dX0_areHeats_57 (q := 58) rfl ?_
  refine x_istore hC dX0_areHeats_58 (q := 60) rfl rfl ?_
  refine x_iinc hC dX0_areHeats_60 (q := 63) rfl rfl (v := nI (h + 1)) (nI_1 h) ?_
  refine x_goto hC dX0_areHeats_63 (tgt := 6) rfl ?_
  refine x_lveq (lv' := [some (.ref (kA σ 0 0)), some (.int (nI c)), some (.int (nI p)), some (.int lo), some (.int hi), some (.int (kAH (fun h : Nat => kGd F σ c (nI p) lo hi (nI h)) (h + 1))), some (.int (nI (h + 1))), _]) (by first | (rw [kAH_t (b := (fun h : Nat => kGd F σ c (nI p) lo hi (nI h))) hg]; rfl) | (rw [kAH_f (b := (fun h : Nat => kGd F σ c (nI p) lo hi (nI h))) hg]; rfl)) ?_
  exact ih (h + 1, _, _) (by (try dsimp only); omega) (by (try dsimp only); omega)
