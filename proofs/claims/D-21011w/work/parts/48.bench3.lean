/-! Bench: sticking, safe -/
theorem kStick_01 {gF : xG} {σ : KS} {F : Nat → Option (aEnv → Int64)} (h : kF gF σ F) (c1 : Nat) (x : Int32) (c2 : Nat) (y z : Int32) : kStick F σ c1 x c2 y z = 0 ∨ kStick F σ c1 x c2 y z = 1 := by
  unfold kStick
  rcases h 3 (by decide) with q | ⟨a, fn, q1, q2, q3, q4⟩
  · rw [q.2]; exact Or.inl rfl
  · rw [q2]
    dsimp only
    rcases aR_01 q3 (ePut (ePut (eW σ e00 z) 6 (if 0 ≤ x - y then x - y else -(x - y))) 7 (iI (kI σ 32 c1) + iI (kI σ 32 c2))) with e | e
    · left; rw [e]; rfl
    · right; rw [e]; rfl
theorem nar32 {x : Int32} (h : x = 0 ∨ x = 1) : narrow .boolean (.int x) = .int x := by rcases h with rfl | rfl <;> rfl

set_option maxHeartbeats 4000000 in
set_option maxRecDepth 100000 in
theorem m_X21_doStick {l : Launch} {s0 : State} {D : va_G} (h0 : x0 l s0 D) (σ : KS) (gF : xG) (f : aEnv) {F : Nat → Option (aEnv → Int64)} (hF : kF gF σ F) (hw : KW σ) (hNB : kNB gF) {a aT aC kq : Nat} (hq : kq < kA σ 62 0) {hh : Int32} {t k : Nat → Nat → Int32} (c1 c2 pl : Nat) (hc1 : c1 < kA σ 61 0) (hc2 : c2 < kA σ 61 0) (hpl : pl + 1 < 6) : xMet l s0 D yX21_doStick cX21_doStick 4 (some .boolean) (xr 38 0 0 1600) [.ref a, .int (nI c1), .int (nI c2), .int (nI pl)] (kmix (kT σ f) (kBF gF a aT aC (kA σ 21 kq) hh (kA σ 0 0) t k)) (fun r g1 => ∃ f1, r = some (.int (kStick F σ c1 (t c1 pl) c2 (t c2 (pl + 1)) hh)) ∧ g1 = kmix (kT σ f1) (kBF gF a aT aC (kA σ 21 kq) hh (kA σ 0 0) t k)) := by
  refine xMet.of h0 (by decide +kernel) rfl ?_
  intro p e s m args below meth c hC hr hnm
  refine x_aloadr_n hC dX21_doStick_0 (q := 1) rfl rfl ?_
  refine x_get hC xf_X21_3_18 dX21_doStick_1 (q := 4) rfl (n := (55, 0)) rfl rfl ?_
  refine x_aloadr_n hC dX21_doStick_4 (q := 5) rfl rfl ?_
  refine x_get hC xf_X21_3_18 dX21_doStick_5 (q := 8) rfl (n := (55, 0)) rfl rfl ?_
  refine x_get hC xf_X21_37_1 dX21_doStick_8 (q := 11) rfl (n := (0, 0)) rfl rfl ?_
  refine x_get hC xf_X21_41_2 dX21_doStick_11 (q := 14) rfl (n := (3, 0)) rfl rfl ?_
  refine x_iload_n hC dX21_doStick_14 (q := 15) rfl rfl ?_
  refine x_callV hC xv_X21_46 dX21_doStick_15 (q := 18) rfl rfl (m_childAt h0 (kT σ f) _ hw.c61 c1 hc1) (nn := (4, 0)) rfl rfl rfl (Nat.le_of_ble_eq_true rfl) ⟨(Nat.le_of_ble_eq_true rfl), (Nat.le_of_ble_eq_true rfl)⟩ ⟨(Nat.le_of_ble_eq_true rfl), (Nat.le_of_ble_eq_true rfl)⟩ (fun v g1 hp => ?_)
  obtain ⟨rfl, hg1⟩ := hp
  replace hg1 := hg1.symm
  subst hg1
  refine x_castS hC q1678 rfl dX21_doStick_18 (q := 21) rfl (n := (20, c1)) (kg_20 (σ := kT σ f) c1 hc1) ?_
  refine x_aloadr_n hC dX21_doStick_21 (q := 22) rfl rfl ?_
  refine x_get hC xf_X21_17_18 dX21_doStick_22 (q := 25) rfl (n := (55, 0)) rfl rfl ?_
  refine x_iload_n hC dX21_doStick_25 (q := 26) rfl rfl ?_
  refine x_aald hC dX21_doStick_26 (q := 27) rfl (n := (56, 0)) rfl (j := c1) rfl (by have := hw.1; omega) (by decide) rfl ?_
  refine x_iload_n hC dX21_doStick_27 (q := 28) rfl rfl ?_
  refine x_iald hC dX21_doStick_28 (q := 29) rfl (n := (57, c1)) (kBF_57 (by have := hw.1; omega)) (j := pl) rfl (by omega) (by decide) ?_
  refine x_aloadr_n hC dX21_doStick_29 (q := 30) rfl rfl ?_
  refine x_get hC xf_X21_3_18 dX21_doStick_30 (q := 33) rfl (n := (55, 0)) rfl rfl ?_
  refine x_get hC xf_X21_37_1 dX21_doStick_33 (q := 36) rfl (n := (0, 0)) rfl rfl ?_
  refine x_get hC xf_X21_41_2 dX21_doStick_36 (q := 39) rfl (n := (3, 0)) rfl rfl ?_
  refine x_iload_n hC dX21_doStick_39 (q := 40) rfl rfl ?_
  refine x_callV hC xv_X21_46 dX21_doStick_40 (q := 43) rfl rfl (m_childAt h0 (kT σ f) _ hw.c61 c2 hc2) (nn := (4, 0)) rfl rfl rfl (Nat.le_of_ble_eq_true rfl) ⟨(Nat.le_of_ble_eq_true rfl), (Nat.le_of_ble_eq_true rfl)⟩ ⟨(Nat.le_of_ble_eq_true rfl), (Nat.le_of_ble_eq_true rfl)⟩ (fun v g1 hp => ?_)
  obtain ⟨rfl, hg1⟩ := hp
  replace hg1 := hg1.symm
  subst hg1
  refine x_castS hC q1678 rfl dX21_doStick_43 (q := 46) rfl (n := (20, c2)) (kg_20 (σ := kT σ f) c2 hc2) ?_
  refine x_aloadr_n hC dX21_doStick_46 (q := 47) rfl rfl ?_
  refine x_get hC xf_X21_17_18 dX21_doStick_47 (q := 50) rfl (n := (55, 0)) rfl rfl ?_
  refine x_iload_n hC dX21_doStick_50 (q := 51) rfl rfl ?_
  refine x_aald hC dX21_doStick_51 (q := 52) rfl (n := (56, 0)) rfl (j := c2) rfl (by have := hw.1; omega) (by decide) rfl ?_
  refine x_iload_n hC dX21_doStick_52 (q := 53) rfl rfl ?_
  refine x_iconst hC dX21_doStick_53 (q := 54) rfl (v := (1)) (by decide) ?_
  refine x_iadd hC dX21_doStick_54 (q := 55) rfl ?_
  refine x_iald hC dX21_doStick_55 (q := 56) rfl (n := (57, c2)) (kBF_57 (by have := hw.1; omega)) (j := pl + 1) (nI_1 pl) (by omega) (by decide) ?_
  refine x_aloadr_n hC dX21_doStick_56 (q := 57) rfl rfl ?_
  refine x_get hC xf_X21_29_18 dX21_doStick_57 (q := 60) rfl (n := (55, 0)) rfl rfl ?_
  refine x_callVN hC xv_X21_68 dX21_doStick_60 (q := 63) rfl rfl (m_X2_doStick h0 σ _ f (kF_mono hF (kBF_sub hNB)) c1 c2 hc1 hc2 (t c1 pl) (t c2 (pl + 1)) hh) (nn := (0, 0)) rfl rfl rfl (Nat.le_of_ble_eq_true rfl) ⟨(Nat.le_of_ble_eq_true rfl), (Nat.le_of_ble_eq_true rfl)⟩ ⟨(Nat.le_of_ble_eq_true rfl), (Nat.le_of_ble_eq_true rfl)⟩ (fun v g1 hp => ?_)
  obtain ⟨f4, rfl, hg1⟩ := hp
  replace hg1 := hg1.symm
  subst hg1
  exact x_zret hC hr (nar32 (kStick_01 hF _ _ _ _ _)) dX21_doStick_63 (Nat.le_of_ble_eq_true rfl) (Nat.le_of_ble_eq_true rfl) ⟨f4, rfl, rfl⟩
