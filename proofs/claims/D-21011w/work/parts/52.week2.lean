/-! A WEEK: the walk -/
theorem nI_eq0 {n : Nat} (h : n < 2147483648) (e : nI n = 0) : n = 0 := by
  have h2 := nI_toInt h
  rw [e] at h2
  have : (0 : Int32).toInt = 0 := rfl
  omega
theorem m_isKept {l : Launch} {s0 : State} {D : va_G} (h0 : x0 l s0 D) (σ : KS) (gF : xG) (x y z : Int) {d0 : Nat} (hw : KW σ) (hKR : KR σ) (h53 : gF (53, 0) = none) (h10 : kA σ 63 0 < 10) (hT : KTc σ d0) (hz : xE0 s0 gF d0) : xMet l s0 D yX2_isKept cX2_isKept 5 none (xr 11 2 14 400) [.ref (kA σ 0 0), .int (iI x), .int (iI y), .int (iI z)] (kmix σ gF) (fun r g1 => ∃ v d, r = none ∧ g1 = kmix (kTell σ d v (kRow (kI σ 3 0) x y z)) gF) := by
  have hp : ∀ (v : Option Value) (g1 : xG), (∃ v0 d, v = none ∧ (kA σ 73 0 ≠ 0 → d = kA σ 11 0) ∧ g1 = kmix (kTell σ d v0 (kRow (kI σ 3 0) x y z)) gF) → ∃ v0 d, v = none ∧ g1 = kmix (kTell σ d v0 (kRow (kI σ 3 0) x y z)) gF := fun v g1 ⟨v0, d, e1, _, e2⟩ => ⟨v0, d, e1, e2⟩
  rcases hT with ⟨a, b, c⟩ | ⟨a, b⟩
  · exact (m_X2_isKept_B h0 σ gF x y z hw hKR h53 h10 a (by rw [c]; exact hz)).post hp
  · exact (m_X2_isKept_A h0 σ gF x y z hw hKR h53 h10 (by omega)).post hp

set_option maxHeartbeats 4000000 in
set_option maxRecDepth 100000 in
theorem m_X2_weekGoes {l : Launch} {s0 : State} {D : va_G} (h0 : x0 l s0 D) (σ : KS) (gF : xG) (f : aEnv) {F : Nat → Option (aEnv → Int64)} {d0 : Nat} (hF : kF gF σ F) (hv : KV σ) (hKR : KR σ) (hT : KTc σ d0) (hz : xE0 s0 gF d0) (h6 : kA σ 63 0 ≤ 7) (hNB : kNB gF) (h60 : gF (60, 0) = none) (h53 : gF (53, 0) = none) (gu : Int32) : xMet l s0 D yX2_weekGoes cX2_weekGoes 7 none (xr 40 66 411 1800) [.ref (kA σ 0 0), .int gu] (kmix (kT σ f) gF) (fun r g1 => ∃ f1 X, r = none ∧ kXr σ X (kWr F gu σ (kA σ 62 0)) d0 ∧ g1 = kmix (kT (kTd (kWk F gu σ) X) f1) gF) := by
  refine xMet.of h0 (by decide +kernel) rfl ?_
  intro p e s m args below meth c hC hr hnm
  refine x_aloadr_n hC dX2_weekGoes_0 (q := 1) rfl rfl ?_
  refine x_iconst hC dX2_weekGoes_1 (q := 2) rfl (v := (0)) (by decide) ?_
  refine x_put hC (n := (0, 0)) xf_X2_220_1 xd_1 rfl dX2_weekGoes_2 (q := 5) rfl rfl rfl rfl rfl ?_
  refine x_geq (g' := kmix (kT (kIs σ 5 0 0) f) gF) (kf_fired (σ := kT σ f) (z := 0) rfl) ?_
  refine x_aloadr_n hC dX2_weekGoes_5 (q := 6) rfl rfl ?_
  refine x_get hC xf_X2_20_1 dX2_weekGoes_6 (q := 9) rfl (n := (0, 0)) rfl rfl ?_
  refine x_sipush hC dX2_weekGoes_9 (q := 12) rfl (v := (9999)) (by decide) ?_
  refine x_aloadr_n hC dX2_weekGoes_12 (q := 13) rfl rfl ?_
  refine x_get hC xf_X2_20_1 dX2_weekGoes_13 (q := 16) rfl (n := (0, 0)) rfl rfl ?_
  refine x_get hC xf_X2_223_2 dX2_weekGoes_16 (q := 19) rfl (n := (3, 0)) rfl rfl ?_
  refine x_aloadr_n hC dX2_weekGoes_19 (q := 20) rfl rfl ?_
  refine x_get hC xf_X2_20_1 dX2_weekGoes_20 (q := 23) rfl (n := (0, 0)) rfl rfl ?_
  refine x_get hC xf_X2_226_2 dX2_weekGoes_23 (q := 26) rfl (n := (3, 0)) rfl rfl ?_
  refine x_iadd hC dX2_weekGoes_26 (q := 27) rfl ?_
  refine x_callS hC xv_X2_229 dX2_weekGoes_27 (q := 30) rfl rfl (m_J0_min h0 _ _ _) rfl (Nat.le_of_ble_eq_true rfl) ⟨(Nat.le_of_ble_eq_true rfl), (Nat.le_of_ble_eq_true rfl)⟩ ⟨(Nat.le_of_ble_eq_true rfl), (Nat.le_of_ble_eq_true rfl)⟩ (fun v g1 hp => ?_)
  obtain ⟨rfl, hg1⟩ := hp
  replace hg1 := hg1.symm
  subst hg1
  refine x_put hC (n := (3, 0)) xf_X2_223_2 xd_2 rfl dX2_weekGoes_30 (q := 33) rfl rfl rfl rfl rfl ?_
  refine x_geq (g' := kmix (kT (kW0 σ) f) gF) (kf_fuel (σ := kT (kIs σ 5 0 0) f) (z := (kFl σ).toInt) (iI_self _).symm) ?_
  refine x_iconst hC dX2_weekGoes_33 (q := 34) rfl (v := (0)) (by decide) ?_
  refine x_istore_n hC dX2_weekGoes_34 (q := 35) rfl rfl ?_
  refine x_loop (S := (fun i : Nat × aEnv × KS => (22 * i.1, 137 * i.1, kmix (kT i.2.2 i.2.1) gF, ([some (.ref (kA i.2.2 0 0)), some (.int gu), some (.int (nI i.1)), none, none, none, none] : xL), ([] : List Value)))) (Inv := fun i => i.1 ≤ kA σ 62 0 ∧ kWI F gu σ d0 i.1 i.2.2) (μ := fun i => kA σ 62 0 - i.1) ?_ (0, f, kW0 σ) ⟨Nat.zero_le _, kWI_0 hT⟩
  intro ⟨k1, f2, ρ⟩ hi ih
  dsimp only at hi ih ⊢
  obtain ⟨hi1, hI⟩ := hi
  have hvr := hI.V hv
  have hw := hvr.1
  have hFr := hI.Fm hF
  have hA62 : kA ρ 62 0 = kA σ 62 0 := hI.A 0 rfl (by decide) (by decide) (by decide) (by decide)
  have hn3 : kA σ 62 0 ≤ 3 := hv.1.2.1
  have hwl := kWr_len (F := F) (gu := gu) (σ := σ) k1
  have hln := hI.len
  refine x_iload_n hC dX2_weekGoes_35 (q := 36) rfl rfl ?_
  refine x_aloadr_n hC dX2_weekGoes_36 (q := 37) rfl rfl ?_
  refine x_callV hC xv_X2_232 dX2_weekGoes_37 (q := 40) rfl rfl (m_X2_kilns h0 (kT ρ f2) _) (nn := (0, 0)) rfl rfl rfl (Nat.le_of_ble_eq_true rfl) ⟨(Nat.le_of_ble_eq_true rfl), (Nat.le_of_ble_eq_true rfl)⟩ ⟨(show 22 * k1 + 0 ≤ 66 by omega), (show 137 * k1 + 0 ≤ 411 by omega)⟩ (fun v g1 hp => ?_)
  obtain ⟨rfl, hg1⟩ := hp
  replace hg1 := hg1.symm
  subst hg1
  refine x_icmp_ge hC dX2_weekGoes_40 (q := 43) rfl (tgt := 174) rfl (fun h40 => ?_) (fun h40 => ?_)
  · have hk3 : k1 = kA σ 62 0 := by
      have h2 : nI (kA ρ 62 0) ≤ nI k1 := h40
      have := (nI_leI (by omega) (by omega)).mp h2
      omega
    refine x_aloadr_n hC dX2_weekGoes_174 (q := 175) rfl rfl ?_
    refine x_dup hC dX2_weekGoes_175 (q := 176) rfl rfl ?_
    refine x_get hC xf_X2_119_1 dX2_weekGoes_176 (q := 179) rfl (n := (0, 0)) rfl rfl ?_
    refine x_iconst hC dX2_weekGoes_179 (q := 180) rfl (v := (1)) (by decide) ?_
    refine x_iadd hC dX2_weekGoes_180 (q := 181) rfl ?_
    refine x_put hC (n := (0, 0)) xf_X2_119_1 xd_1 rfl dX2_weekGoes_181 (q := 184) rfl rfl rfl rfl rfl ?_
    have hI3 : kI ρ 3 0 = kI σ 3 0 := hI.I (Or.inl rfl) 0
    obtain ⟨X, hX, hXr⟩ := hI
    refine x_geq (g' := kmix (kT (kTd (kWk F gu σ) X) f2) gF) ((kf_week (σ := kT ρ f2) (z := kI σ 3 0 + 1) (by rw [← iI_add, ← hI3]; rfl)).trans (by
      refine congrArg (fun q => kmix q gF) ?_
      show kT (kIs ρ 3 0 (kI σ 3 0 + 1)) f2 = _
      rw [hX, hk3, kIs_kTd _ _ (by decide)]
      rfl)) ?_
    exact x_vret hC hr dX2_weekGoes_184 (show 22 * k1 ≤ 66 by omega) (show 137 * k1 ≤ 411 by omega) ⟨f2, X, rfl, by rw [← hk3]; exact hXr, rfl⟩
  have hk2 : k1 < kA ρ 62 0 := Nat.lt_of_not_le (fun q => h40 (show nI (kA ρ 62 0) ≤ nI k1 from nI_le q (by omega)))
  have h10r : kA ρ 63 0 < 10 := by omega
  refine x_aloadr_n hC dX2_weekGoes_43 (q := 44) rfl rfl ?_
  refine x_get hC xf_X2_20_1 dX2_weekGoes_44 (q := 47) rfl (n := (0, 0)) rfl rfl ?_
  refine x_get hC xf_X2_152_2 dX2_weekGoes_47 (q := 50) rfl (n := (3, 0)) rfl rfl ?_
  refine x_iload_n hC dX2_weekGoes_50 (q := 51) rfl rfl ?_
  refine x_callV hC xv_X2_139 dX2_weekGoes_51 (q := 54) rfl rfl (m_kilnAt h0 (kT ρ f2) _ hw.c62 k1 hk2) (nn := (6, 0)) rfl rfl rfl (Nat.le_of_ble_eq_true rfl) ⟨(Nat.le_of_ble_eq_true rfl), (Nat.le_of_ble_eq_true rfl)⟩ ⟨(show 22 * k1 + 0 ≤ 66 by omega), (show 137 * k1 + 0 ≤ 411 by omega)⟩ (fun v g1 hp => ?_)
  obtain ⟨rfl, hg1⟩ := hp
  replace hg1 := hg1.symm
  subst hg1
  refine x_castS hC q1361 rfl dX2_weekGoes_54 (q := 57) rfl (n := (21, k1)) (kg_21 (σ := (kT ρ f2)) k1 hk2) ?_
  refine x_astorer_n hC dX2_weekGoes_57 (q := 58) rfl rfl ?_
  refine x_aloadr_n hC dX2_weekGoes_58 (q := 59) rfl rfl ?_
  refine x_callV hC xv_X2_234 dX2_weekGoes_59 (q := 62) rfl rfl (m_X9_isLit h0 (kT ρ f2) _ k1 hk2) (nn := (21, k1)) (kg_21 (σ := (kT ρ f2)) k1 hk2) rfl rfl (Nat.le_of_ble_eq_true rfl) ⟨(Nat.le_of_ble_eq_true rfl), (Nat.le_of_ble_eq_true rfl)⟩ ⟨(show 22 * k1 + 0 ≤ 66 by omega), (show 137 * k1 + 0 ≤ 411 by omega)⟩ (fun v g1 hp => ?_)
  obtain ⟨rfl, hg1⟩ := hp
  replace hg1 := hg1.symm
  subst hg1
  refine x_if_eq hC dX2_weekGoes_62 (q := 65) rfl (tgt := 168) rfl (fun h62 => ?_) (fun h62 => ?_)
  · have hcn : iI (kI ρ 41 k1) = -1 ∨ kFull ρ k1 = 0 ∨ iI (kI ρ 7 0) < kBurn F ρ k1 := Or.inl (Decidable.byContradiction (fun q => by
      have e := h62
      rw [if_neg (show ¬ iI (kI (kT ρ f2) 41 k1) = -1 from q)] at e
      exact absurd e (by decide)))
    refine x_iinc hC dX2_weekGoes_168 (q := 171) rfl rfl (v := nI (k1 + 1)) (nI_1 k1) ?_
    refine x_goto hC dX2_weekGoes_171 (tgt := 35) rfl ?_
    refine x_widen (k0 := 22 * (k1 + 1)) (n0 := 137 * (k1 + 1)) (by dsimp only [xr]; omega) (by dsimp only [xr]; omega) ?_
    first
      | (refine x_lvle (lv' := [some (.ref (kA ρ 0 0)), some (.int gu), some (.int (nI (k1 + 1))), none, none, none, none]) (by repeat' constructor) ?_
         exact ih (k1 + 1, _, ρ) ⟨by dsimp only; omega, kWI_n hI hcn⟩ (by dsimp only; omega))
      | (refine x_geq (g' := kmix (kT (kTell (kFdS F ρ k1 gu) dd vv (kRw F ρ k1 gu)) f5) gF) hgt ?_
         refine x_lvle (lv' := [some (.ref (kA (kTell (kFdS F ρ k1 gu) dd vv (kRw F ρ k1 gu)) 0 0)), some (.int gu), some (.int (nI (k1 + 1))), none, none, none, none]) (by rw [show kA (kTell (kFdS F ρ k1 gu) dd vv (kRw F ρ k1 gu)) 0 0 = kA (kFdS F ρ k1 gu) 0 0 from rfl, kA_kFdS]; repeat' constructor) ?_
         exact ih (k1 + 1, f5, kTell (kFdS F ρ k1 gu) dd vv (kRw F ρ k1 gu)) ⟨by dsimp only; omega, kWI_f hI hc hth h10r dd vv⟩ (by dsimp only; omega))
      | (refine x_geq (g' := kmix (kT (kFdS F ρ k1 gu) f5) gF) (by rw [kOn_eq (σ := ρ) (τ := (kFdS F ρ k1 gu)) (kA_kFdS _ _)]) ?_
         refine x_lvle (lv' := [some (.ref (kA (kFdS F ρ k1 gu) 0 0)), some (.int gu), some (.int (nI (k1 + 1))), none, none, none, none]) (by rw [kA_kFdS]; repeat' constructor) ?_
         exact ih (k1 + 1, f5, (kFdS F ρ k1 gu)) ⟨by dsimp only; omega, kWI_t hI hc hth⟩ (by dsimp only; omega))
  have hl : ¬ iI (kI ρ 41 k1) = -1 := fun q => h62 (if_pos q)
  refine x_aloadr_n hC dX2_weekGoes_65 (q := 66) rfl rfl ?_
  refine x_callV hC xv_X2_217 dX2_weekGoes_66 (q := 69) rfl rfl (m_X9_full h0 (kT ρ f2) _ k1 hk2 (hw.2.2.2.1 k1 hk2)) (nn := (21, k1)) (kg_21 (σ := (kT ρ f2)) k1 hk2) rfl rfl (Nat.le_of_ble_eq_true rfl) ⟨(Nat.le_of_ble_eq_true rfl), (Nat.le_of_ble_eq_true rfl)⟩ ⟨(show 22 * k1 + 0 ≤ 66 by omega), (show 137 * k1 + 0 ≤ 411 by omega)⟩ (fun v g1 hp => ?_)
  obtain ⟨rfl, hg1⟩ := hp
  replace hg1 := hg1.symm
  subst hg1
  refine x_if_ne hC dX2_weekGoes_69 (q := 72) rfl (tgt := 75) rfl (fun h69 => ?_) (fun h69 => ?_)
  · have hfl : ¬ kFull ρ k1 = 0 := fun q => h69 (by rw [show kFull (kT ρ f2) k1 = 0 from q]; rfl)
    refine x_aloadr_n hC dX2_weekGoes_75 (q := 76) rfl rfl ?_
    refine x_aloadr_n hC dX2_weekGoes_76 (q := 77) rfl rfl ?_
    refine x_callV hC xv_X2_238 dX2_weekGoes_77 (q := 80) rfl rfl (m_X2_burnt h0 ρ gF f2 hFr hw k1 hk2) (nn := (0, 0)) rfl rfl rfl (Nat.le_of_ble_eq_true rfl) ⟨(Nat.le_of_ble_eq_true rfl), (Nat.le_of_ble_eq_true rfl)⟩ ⟨(show 22 * k1 + 0 ≤ 66 by omega), (show 137 * k1 + 0 ≤ 411 by omega)⟩ (fun v g1 hp => ?_)
    obtain ⟨f3, rfl, hg1⟩ := hp
    replace hg1 := hg1.symm
    subst hg1
    refine x_istore hC dX2_weekGoes_80 (q := 82) rfl rfl ?_
    refine x_iload hC dX2_weekGoes_82 (q := 84) rfl rfl ?_
    refine x_aloadr_n hC dX2_weekGoes_84 (q := 85) rfl rfl ?_
    refine x_get hC xf_X2_20_1 dX2_weekGoes_85 (q := 88) rfl (n := (0, 0)) rfl rfl ?_
    refine x_get hC xf_X2_223_2 dX2_weekGoes_88 (q := 91) rfl (n := (3, 0)) rfl rfl ?_
    refine x_icmp_le hC dX2_weekGoes_91 (q := 94) rfl (tgt := 97) rfl (fun h91 => ?_) (fun h91 => ?_)
    · have hc : ¬ (iI (kI ρ 41 k1) = -1 ∨ kFull ρ k1 = 0 ∨ iI (kI ρ 7 0) < kBurn F ρ k1) := by
        intro q
        rcases q with q | q | q
        · exact hl q
        · exact hfl q
        · exact absurd h91 (Int32.not_le.mpr q)
      refine x_aloadr_n hC dX2_weekGoes_97 (q := 98) rfl rfl ?_
      refine x_get hC xf_X2_20_1 dX2_weekGoes_98 (q := 101) rfl (n := (0, 0)) rfl rfl ?_
      refine x_dup hC dX2_weekGoes_101 (q := 102) rfl rfl ?_
      refine x_get hC xf_X2_223_2 dX2_weekGoes_102 (q := 105) rfl (n := (3, 0)) rfl rfl ?_
      refine x_iload hC dX2_weekGoes_105 (q := 107) rfl rfl ?_
      refine x_isub hC dX2_weekGoes_107 (q := 108) rfl ?_
      refine x_put hC (n := (3, 0)) xf_X2_223_2 xd_2 rfl dX2_weekGoes_108 (q := 111) rfl rfl rfl rfl rfl ?_
      refine x_geq (g' := kmix (kT (kPaid F ρ k1) f3) gF) (kf_fuel (σ := kT ρ f3) (z := (iI (kI ρ 7 0) - kBurn F ρ k1).toInt) (iI_self _).symm) ?_
      have hFp : kF gF (kPaid F ρ k1) F := kF_on hFr (fun _ => rfl)
      have hvp : KV (kPaid F ρ k1) := KV_kIs hvr (by decide) _ _
      refine x_bipush hC dX2_weekGoes_111 (q := 113) rfl (v := (20)) (by decide) ?_
      refine x_aloadr_n hC dX2_weekGoes_113 (q := 114) rfl rfl ?_
      refine x_get hC xf_X2_211_6 dX2_weekGoes_114 (q := 117) rfl (n := (21, k1)) (kg_21 (σ := (kT (kPaid F ρ k1) f3)) k1 hk2) rfl ?_
      refine x_iload_n hC dX2_weekGoes_117 (q := 118) rfl rfl ?_
      refine x_iadd hC dX2_weekGoes_118 (q := 119) rfl ?_
      refine x_callS hC xv_X2_229 dX2_weekGoes_119 (q := 122) rfl rfl (m_J0_min h0 _ _ _) rfl (Nat.le_of_ble_eq_true rfl) ⟨(Nat.le_of_ble_eq_true rfl), (Nat.le_of_ble_eq_true rfl)⟩ ⟨(show 22 * k1 + 0 ≤ 66 by omega), (show 137 * k1 + 0 ≤ 411 by omega)⟩ (fun v g1 hp => ?_)
      obtain ⟨rfl, hg1⟩ := hp
      replace hg1 := hg1.symm
      subst hg1
      refine x_steq (st1 := [.int (kHt ρ k1 gu)]) rfl ?_
      refine x_istore hC dX2_weekGoes_122 (q := 124) rfl rfl ?_
      refine x_new hC (fs := [.null, .int 0, .null, .null, .null]) (55, 0) xc_18 q1667 q1668 q115 dX2_weekGoes_124 (q := 127) rfl rfl (hNB (55, 0) (by decide) (by decide)) (fun j hj => by match j, hj with | 0, _ => rfl | 1, _ => rfl | 2, _ => rfl | 3, _ => rfl | 4, _ => rfl | j + 5, h => exact absurd h (by omega)) (show 22 * k1 + 1 ≤ 66 by omega) (show 137 * k1 + 5 ≤ 411 by omega) (fun a_124 => ?_)
      refine x_geq (kmix_xuF _ _ _ _ rfl) ?_
      refine x_dup hC dX2_weekGoes_127 (q := 128) rfl rfl ?_
      refine x_aloadr_n hC dX2_weekGoes_128 (q := 129) rfl rfl ?_
      refine x_aloadr_n hC dX2_weekGoes_129 (q := 130) rfl rfl ?_
      refine x_iload hC dX2_weekGoes_130 (q := 132) rfl rfl ?_
      refine x_callI hC xv_X2_244 dX2_weekGoes_132 (q := 135) rfl rfl (m_X21_init h0 (kPaid F ρ k1) gF f3 hFp hvp.1 hNB (a := a_124) k1 hk2 (kHt ρ k1 gu)) rfl (Nat.le_of_ble_eq_true rfl) ⟨(Nat.le_of_ble_eq_true rfl), (Nat.le_of_ble_eq_true rfl)⟩ ⟨(show 22 * k1 + 1 + 18 ≤ 66 by omega), (show 137 * k1 + 5 + 112 ≤ 411 by omega)⟩ (fun v g1 hp => ?_)
      obtain ⟨f4, aT, aC, rfl, hg1⟩ := hp
      replace hg1 := hg1.symm
      subst hg1
      refine x_callV hC xv_X2_247 dX2_weekGoes_135 (q := 138) rfl rfl (m_X21_fires h0 (kPaid F ρ k1) gF f4 hFp hvp hNB h60 (a := a_124) (aT := aT) (aC := aC) hk2 (hh := (kHt ρ k1 gu)) (t := kBT F (kPaid F ρ k1) k1 (kHt ρ k1 gu)) (k := kBK F (kPaid F ρ k1) k1 (kHt ρ k1 gu)) (kBK_01 hFp k1 _)) (nn := (55, 0)) rfl rfl rfl (Nat.le_of_ble_eq_true rfl) ⟨(Nat.le_of_ble_eq_true rfl), (Nat.le_of_ble_eq_true rfl)⟩ ⟨(show 22 * k1 + 1 + 18 + 1 ≤ 66 by omega), (show 137 * k1 + 5 + 112 + 6 ≤ 411 by omega)⟩ (fun v g1 hp => ?_)
      obtain ⟨f5, rfl, hg1⟩ := hp
      replace hg1 := hg1.symm
      subst hg1
      refine x_geq (g' := kmix (kT (kOn ρ (kFd F ρ k1 gu)) f5) gF) (by rw [kOn_eq (σ := ρ) (τ := (kFd F ρ k1 gu)) (kA_kFd _ _)]; rfl) ?_
      refine x_istore hC dX2_weekGoes_138 (q := 140) rfl rfl ?_
      refine x_aloadr_n hC dX2_weekGoes_140 (q := 141) rfl rfl ?_
      refine x_dup hC dX2_weekGoes_141 (q := 142) rfl rfl ?_
      refine x_get hC xf_X2_220_1 dX2_weekGoes_142 (q := 145) rfl (n := (0, 0)) rfl rfl ?_
      refine x_iconst hC dX2_weekGoes_145 (q := 146) rfl (v := (1)) (by decide) ?_
      refine x_iload_n hC dX2_weekGoes_146 (q := 147) rfl rfl ?_
      refine x_ishl hC dX2_weekGoes_147 (q := 148) rfl ?_
      refine x_ior hC dX2_weekGoes_148 (q := 149) rfl ?_
      refine x_put hC (n := (0, 0)) xf_X2_220_1 xd_1 rfl dX2_weekGoes_149 (q := 152) rfl rfl rfl rfl rfl ?_
      refine x_geq (g' := kmix (kT (kOn ρ (kFdS F ρ k1 gu)) f5) gF) (kf_fired (σ := (kT (kOn ρ (kFd F ρ k1 gu)) f5)) (z := (iI (kI (kFd F ρ k1 gu) 5 0) ||| ((1 : Int32) <<< (nI k1 &&& 31))).toInt) (iI_self _).symm) ?_
      have hI4 : kI (kFdS F ρ k1 gu) 4 0 = kI ρ 4 0 := by unfold kFdS; rw [kI_kIs, if_neg (fun q => absurd q.1 (by decide)), kI_kFd _ _ (by decide) (by decide) (by decide)]
      have hI3 : kI (kFdS F ρ k1 gu) 3 0 = kI ρ 3 0 := by unfold kFdS; rw [kI_kIs, if_neg (fun q => absurd q.1 (by decide)), kI_kFd _ _ (by decide) (by decide) (by decide)]
      refine x_aloadr_n hC dX2_weekGoes_152 (q := 153) rfl rfl ?_
      refine x_get hC xf_X2_250_1 dX2_weekGoes_153 (q := 156) rfl (n := (0, 0)) rfl rfl ?_
      refine x_if_ne hC dX2_weekGoes_156 (q := 159) rfl (tgt := 168) rfl (fun h156 => ?_) (fun h156 => ?_)
      · have hth : ¬ iI (kI ρ 4 0) = 0 := by rw [← hI4]; exact h156
        refine x_iinc hC dX2_weekGoes_168 (q := 171) rfl rfl (v := nI (k1 + 1)) (nI_1 k1) ?_
        refine x_goto hC dX2_weekGoes_171 (tgt := 35) rfl ?_
        refine x_widen (k0 := 22 * (k1 + 1)) (n0 := 137 * (k1 + 1)) (by dsimp only [xr]; omega) (by dsimp only [xr]; omega) ?_
        first
          | (refine x_lvle (lv' := [some (.ref (kA ρ 0 0)), some (.int gu), some (.int (nI (k1 + 1))), none, none, none, none]) (by repeat' constructor) ?_
             exact ih (k1 + 1, _, ρ) ⟨by dsimp only; omega, kWI_n hI hcn⟩ (by dsimp only; omega))
          | (refine x_geq (g' := kmix (kT (kTell (kFdS F ρ k1 gu) dd vv (kRw F ρ k1 gu)) f5) gF) hgt ?_
             refine x_lvle (lv' := [some (.ref (kA (kTell (kFdS F ρ k1 gu) dd vv (kRw F ρ k1 gu)) 0 0)), some (.int gu), some (.int (nI (k1 + 1))), none, none, none, none]) (by rw [show kA (kTell (kFdS F ρ k1 gu) dd vv (kRw F ρ k1 gu)) 0 0 = kA (kFdS F ρ k1 gu) 0 0 from rfl, kA_kFdS]; repeat' constructor) ?_
             exact ih (k1 + 1, f5, kTell (kFdS F ρ k1 gu) dd vv (kRw F ρ k1 gu)) ⟨by dsimp only; omega, kWI_f hI hc hth h10r dd vv⟩ (by dsimp only; omega))
          | (refine x_geq (g' := kmix (kT (kFdS F ρ k1 gu) f5) gF) (by rw [kOn_eq (σ := ρ) (τ := (kFdS F ρ k1 gu)) (kA_kFdS _ _)]) ?_
             refine x_lvle (lv' := [some (.ref (kA (kFdS F ρ k1 gu) 0 0)), some (.int gu), some (.int (nI (k1 + 1))), none, none, none, none]) (by rw [kA_kFdS]; repeat' constructor) ?_
             exact ih (k1 + 1, f5, (kFdS F ρ k1 gu)) ⟨by dsimp only; omega, kWI_t hI hc hth⟩ (by dsimp only; omega))
      have hth : iI (kI ρ 4 0) = 0 := by rw [← hI4]; exact h156
      refine x_aloadr_n hC dX2_weekGoes_159 (q := 160) rfl rfl ?_
      refine x_iload_n hC dX2_weekGoes_160 (q := 161) rfl rfl ?_
      refine x_iload hC dX2_weekGoes_161 (q := 163) rfl rfl ?_
      refine x_iload hC dX2_weekGoes_163 (q := 165) rfl rfl ?_
      refine x_steq (st1 := [.int (iI ((kCk (kPaid F ρ k1) k1 (kBK F (kPaid F ρ k1) k1 (kHt ρ k1 gu)) (kA ρ 25 k1) : Nat) : Int)), .int (iI (kHt ρ k1 gu).toInt), .int (iI (k1 : Int)), .ref (kA ρ 0 0)]) (by rw [iI_nat, iI_nat, iI_self]; rfl) ?_
      refine x_callV hC xv_X2_254 dX2_weekGoes_165 (q := 168) rfl rfl (m_isKept h0 (kT (kOn ρ (kFdS F ρ k1 gu)) f5) gF k1 (kHt ρ k1 gu).toInt (kCk (kPaid F ρ k1) k1 (kBK F (kPaid F ρ k1) k1 (kHt ρ k1 gu)) (kA ρ 25 k1) : Nat) (by rw [kOn_eq (σ := ρ) (τ := (kFdS F ρ k1 gu)) (kA_kFdS _ _)]; exact (kFdS_V hvr k1).1) (hI.R hKR) h53 h10r hI.cap hz) (nn := (0, 0)) rfl rfl rfl (Nat.le_of_ble_eq_true rfl) ⟨(Nat.le_of_ble_eq_true rfl), (Nat.le_of_ble_eq_true rfl)⟩ ⟨(show 22 * k1 + 1 + 18 + 1 + 2 ≤ 66 by omega), (show 137 * k1 + 5 + 112 + 6 + 14 ≤ 411 by omega)⟩ (fun v g1 hp => ?_)
      obtain ⟨vv, dd, rfl, hg1⟩ := hp
      replace hg1 := hg1.symm
      subst hg1
      have hgt : kmix (kTell (kT (kOn ρ (kFdS F ρ k1 gu)) f5) dd vv (kRow (kI (kT (kOn ρ (kFdS F ρ k1 gu)) f5) 3 0) k1 (kHt ρ k1 gu).toInt (kCk (kPaid F ρ k1) k1 (kBK F (kPaid F ρ k1) k1 (kHt ρ k1 gu)) (kA ρ 25 k1) : Nat))) gF = kmix (kT (kTell (kFdS F ρ k1 gu) dd vv (kRw F ρ k1 gu)) f5) gF := by
        rw [kOn_eq (σ := ρ) (τ := (kFdS F ρ k1 gu)) (kA_kFdS _ _), show kI (kT (kFdS F ρ k1 gu) f5) 3 0 = kI ρ 3 0 from hI3]
        rfl
      refine x_iinc hC dX2_weekGoes_168 (q := 171) rfl rfl (v := nI (k1 + 1)) (nI_1 k1) ?_
      refine x_goto hC dX2_weekGoes_171 (tgt := 35) rfl ?_
      refine x_widen (k0 := 22 * (k1 + 1)) (n0 := 137 * (k1 + 1)) (by dsimp only [xr]; omega) (by dsimp only [xr]; omega) ?_
      first
        | (refine x_lvle (lv' := [some (.ref (kA ρ 0 0)), some (.int gu), some (.int (nI (k1 + 1))), none, none, none, none]) (by repeat' constructor) ?_
           exact ih (k1 + 1, _, ρ) ⟨by dsimp only; omega, kWI_n hI hcn⟩ (by dsimp only; omega))
        | (refine x_geq (g' := kmix (kT (kTell (kFdS F ρ k1 gu) dd vv (kRw F ρ k1 gu)) f5) gF) hgt ?_
           refine x_lvle (lv' := [some (.ref (kA (kTell (kFdS F ρ k1 gu) dd vv (kRw F ρ k1 gu)) 0 0)), some (.int gu), some (.int (nI (k1 + 1))), none, none, none, none]) (by rw [show kA (kTell (kFdS F ρ k1 gu) dd vv (kRw F ρ k1 gu)) 0 0 = kA (kFdS F ρ k1 gu) 0 0 from rfl, kA_kFdS]; repeat' constructor) ?_
           exact ih (k1 + 1, f5, kTell (kFdS F ρ k1 gu) dd vv (kRw F ρ k1 gu)) ⟨by dsimp only; omega, kWI_f hI hc hth h10r dd vv⟩ (by dsimp only; omega))
        | (refine x_geq (g' := kmix (kT (kFdS F ρ k1 gu) f5) gF) (by rw [kOn_eq (σ := ρ) (τ := (kFdS F ρ k1 gu)) (kA_kFdS _ _)]) ?_
           refine x_lvle (lv' := [some (.ref (kA (kFdS F ρ k1 gu) 0 0)), some (.int gu), some (.int (nI (k1 + 1))), none, none, none, none]) (by rw [kA_kFdS]; repeat' constructor) ?_
           exact ih (k1 + 1, f5, (kFdS F ρ k1 gu)) ⟨by dsimp only; omega, kWI_t hI hc hth⟩ (by dsimp only; omega))
    have hcn : iI (kI ρ 41 k1) = -1 ∨ kFull ρ k1 = 0 ∨ iI (kI ρ 7 0) < kBurn F ρ k1 := Or.inr (Or.inr (Int32.not_le.mp h91))
    refine x_goto hC dX2_weekGoes_94 (tgt := 168) rfl ?_
    refine x_iinc hC dX2_weekGoes_168 (q := 171) rfl rfl (v := nI (k1 + 1)) (nI_1 k1) ?_
    refine x_goto hC dX2_weekGoes_171 (tgt := 35) rfl ?_
    refine x_widen (k0 := 22 * (k1 + 1)) (n0 := 137 * (k1 + 1)) (by dsimp only [xr]; omega) (by dsimp only [xr]; omega) ?_
    first
      | (refine x_lvle (lv' := [some (.ref (kA ρ 0 0)), some (.int gu), some (.int (nI (k1 + 1))), none, none, none, none]) (by repeat' constructor) ?_
         exact ih (k1 + 1, _, ρ) ⟨by dsimp only; omega, kWI_n hI hcn⟩ (by dsimp only; omega))
      | (refine x_geq (g' := kmix (kT (kTell (kFdS F ρ k1 gu) dd vv (kRw F ρ k1 gu)) f5) gF) hgt ?_
         refine x_lvle (lv' := [some (.ref (kA (kTell (kFdS F ρ k1 gu) dd vv (kRw F ρ k1 gu)) 0 0)), some (.int gu), some (.int (nI (k1 + 1))), none, none, none, none]) (by rw [show kA (kTell (kFdS F ρ k1 gu) dd vv (kRw F ρ k1 gu)) 0 0 = kA (kFdS F ρ k1 gu) 0 0 from rfl, kA_kFdS]; repeat' constructor) ?_
         exact ih (k1 + 1, f5, kTell (kFdS F ρ k1 gu) dd vv (kRw F ρ k1 gu)) ⟨by dsimp only; omega, kWI_f hI hc hth h10r dd vv⟩ (by dsimp only; omega))
      | (refine x_geq (g' := kmix (kT (kFdS F ρ k1 gu) f5) gF) (by rw [kOn_eq (σ := ρ) (τ := (kFdS F ρ k1 gu)) (kA_kFdS _ _)]) ?_
         refine x_lvle (lv' := [some (.ref (kA (kFdS F ρ k1 gu) 0 0)), some (.int gu), some (.int (nI (k1 + 1))), none, none, none, none]) (by rw [kA_kFdS]; repeat' constructor) ?_
         exact ih (k1 + 1, f5, (kFdS F ρ k1 gu)) ⟨by dsimp only; omega, kWI_t hI hc hth⟩ (by dsimp only; omega))
  have hcn : iI (kI ρ 41 k1) = -1 ∨ kFull ρ k1 = 0 ∨ iI (kI ρ 7 0) < kBurn F ρ k1 := Or.inr (Or.inl (nI_eq0 (Nat.lt_of_le_of_lt (kCnt_le _ _) (Nat.lt_of_le_of_lt (hw.2.2.2.1 k1 hk2) (by decide))) h69))
  refine x_goto hC dX2_weekGoes_72 (tgt := 168) rfl ?_
  refine x_iinc hC dX2_weekGoes_168 (q := 171) rfl rfl (v := nI (k1 + 1)) (nI_1 k1) ?_
  refine x_goto hC dX2_weekGoes_171 (tgt := 35) rfl ?_
  refine x_widen (k0 := 22 * (k1 + 1)) (n0 := 137 * (k1 + 1)) (by dsimp only [xr]; omega) (by dsimp only [xr]; omega) ?_
  first
    | (refine x_lvle (lv' := [some (.ref (kA ρ 0 0)), some (.int gu), some (.int (nI (k1 + 1))), none, none, none, none]) (by repeat' constructor) ?_
       exact ih (k1 + 1, _, ρ) ⟨by dsimp only; omega, kWI_n hI hcn⟩ (by dsimp only; omega))
    | (refine x_geq (g' := kmix (kT (kTell (kFdS F ρ k1 gu) dd vv (kRw F ρ k1 gu)) f5) gF) hgt ?_
       refine x_lvle (lv' := [some (.ref (kA (kTell (kFdS F ρ k1 gu) dd vv (kRw F ρ k1 gu)) 0 0)), some (.int gu), some (.int (nI (k1 + 1))), none, none, none, none]) (by rw [show kA (kTell (kFdS F ρ k1 gu) dd vv (kRw F ρ k1 gu)) 0 0 = kA (kFdS F ρ k1 gu) 0 0 from rfl, kA_kFdS]; repeat' constructor) ?_
       exact ih (k1 + 1, f5, kTell (kFdS F ρ k1 gu) dd vv (kRw F ρ k1 gu)) ⟨by dsimp only; omega, kWI_f hI hc hth h10r dd vv⟩ (by dsimp only; omega))
    | (refine x_geq (g' := kmix (kT (kFdS F ρ k1 gu) f5) gF) (by rw [kOn_eq (σ := ρ) (τ := (kFdS F ρ k1 gu)) (kA_kFdS _ _)]) ?_
       refine x_lvle (lv' := [some (.ref (kA (kFdS F ρ k1 gu) 0 0)), some (.int gu), some (.int (nI (k1 + 1))), none, none, none, none]) (by rw [kA_kFdS]; repeat' constructor) ?_
       exact ih (k1 + 1, f5, (kFdS F ρ k1 gu)) ⟨by dsimp only; omega, kWI_t hI hc hth⟩ (by dsimp only; omega))
