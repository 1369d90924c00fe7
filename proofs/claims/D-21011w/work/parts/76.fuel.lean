/-! fuel, later -/
/-- a lambda in the frame -/
theorem xu_sub {gF : xG} {n : xN} (hn : gF n = none) {z : Option (Nat × xE)} (k : xN) (x : Nat × xE) (hx : gF k = some x) : xu gF n z k = some x := by
  rw [xu_ne (fun e => by rw [e, hn] at hx; cases hx)]; exact hx
theorem KSt.lam {gF : xG} {F : Nat → Option (aEnv → Int64)} {d0 : Nat} {σ : KS} (h : KSt gF F d0 σ) {n : xN} (hn : gF n = none) {z : Option (Nat × xE)} : KSt (xu gF n z) F d0 σ := ⟨kF_mono h.1 (xu_sub hn), h.2⟩
theorem KFo.lam {s0 : State} {gF : xG} {d0 : Nat} (h : KFo s0 gF d0) {n : xN} (hn : Nat.ble 2000 n.1 = true) {z : Option (Nat × xE)} : KFo s0 (xu gF n z) d0 := by
  have hn := Nat.le_of_ble_eq_true hn
  refine ⟨⟨h.1.1, ?_⟩, fun k h1 h2 => ?_⟩
  · obtain ⟨f, hf⟩ := h.1.2
    exact ⟨f, by rw [xu_ne (fun e => by rw [← e] at hn; exact absurd hn (by decide))]; exact hf⟩
  · rw [xu_ne (fun e => by rw [e] at h2; omega)]; exact h.2 k h1 h2
theorem xu_back {gF : xG} {n : xN} (hn : gF n = none) {z : Option (Nat × xE)} {σ : KS} (k : xN) (x : Nat × xE) (hx : kmix σ gF k = some x) : kmix σ (xu gF n z) k = some x := by
  by_cases e : Nat.blt k.1 40 = true
  · rw [show k = (k.1, k.2) from rfl, kmix_eq _ _ _ _ e] at hx ⊢; exact hx
  · have e : Nat.blt k.1 40 = false := (Bool.not_eq_true _).mp e
    rw [kmix_F _ _ _ e] at hx ⊢
    exact xu_sub hn k x hx
theorem xlay_6 : xla_6.2.1 = #[.object "KilnBench"] := by decide +kernel
theorem xlay_7 : xla_7.2.1 = #[.object "KilnBench$Child"] := by decide +kernel

set_option maxHeartbeats 4000000 in
set_option maxRecDepth 100000 in
theorem m_X2_lambda_later_6 {l : Launch} {s0 : State} {D : va_G} (h0 : x0 l s0 D) (σ : KS) (gF : xG) (ch : Nat) (hc : ch < kA σ 61 0) : xMet l s0 D yX2_lambda_later_6 cX2_lambda_later_6 1 (some .int) (xr 1 0 0 25) [.ref (kA σ 20 ch)] (kmix σ gF) (fun r g1 => r = some (.int (iI (kI σ 34 ch))) ∧ g1 = kmix σ gF) := by
  refine xMet.of h0 (by decide +kernel) rfl ?_
  intro p e s m args below meth c hC hr hnm
  refine x_aloadr_n hC dX2_lambda_later_6_0 (q := 1) rfl rfl ?_
  refine x_get hC xf_X2_371_5 dX2_lambda_later_6_1 (q := 4) rfl (n := (20, ch)) (kg_20 ch hc) rfl ?_
  exact x_iret hC hr dX2_lambda_later_6_4 (Nat.le_of_ble_eq_true rfl) (Nat.le_of_ble_eq_true rfl) ⟨rfl, rfl⟩

set_option maxHeartbeats 4000000 in
set_option maxRecDepth 100000 in
theorem m_X2_fuel {l : Launch} {s0 : State} {D : va_G} (h0 : x0 l s0 D) (σ : KS) (gF : xG) (f : aEnv) {F : Nat → Option (aEnv → Int64)} {d0 : Nat} (hG : KSt gF F d0 σ) (hFo : KFo s0 gF d0) (n1 : Nat) (hn1 : n1 ≤ 40) (hwk : 0 ≤ kI σ 3 0 ∧ kI σ 3 0 + n1 ≤ 999) (hL0 : gF (2000, 0) = none) : xMet l s0 D yX2_fuel cX2_fuel 2 (some .int) (xr 54 (4 + 66 * n1) (49 + 411 * n1) 3100) [.ref (kA σ 0 0), .int (nI n1)] (kmix (kT σ f) gF) (fun r g1 => ∃ f1 y, r = some (.int (iI (kI (kGs F (kIs σ 4 0 1) n1) 7 0))) ∧ g1 = kmix (kT (kIs σ 5 0 y) f1) gF) := by
  have hok := kOn_eq (σ := σ) (τ := (kGs F (kIs σ 4 0 1) n1)) (kA_kGs (F := F) (σ := (kIs σ 4 0 1)) n1)
  refine xMet.ofN h0 (by decide +kernel) rfl ?_
  intro p e s m args below meth c hC hr hnm hnd
  refine x_aloadr_n hC dX2_fuel_0 (q := 1) rfl rfl ?_
  refine x_iload_n hC dX2_fuel_1 (q := 2) rfl rfl ?_
  refine x_aloadr_n hC dX2_fuel_2 (q := 3) rfl rfl ?_
  refine x_indy hC hnd (index := 427) (ci := 106) (vals := [.ref (kA σ 0 0)]) (rest := [.int (nI n1), .ref (kA σ 0 0)]) (2000, 0) xlw_6 (fun _ => rfl) rfl rfl rfl xfi_6 xli_6 (by rw [xlay_6]; rfl) rfl (fun i v hv => by
      rw [xlay_6]
      cases i with
      | zero => cases hv; rfl
      | succ j => cases hv) dX2_fuel_3 (q := 8) rfl rfl hL0 rfl (Nat.le_of_ble_eq_true rfl) (Nat.le_of_ble_eq_true rfl) (show 0 + 1 ≤ 4 + 66 * n1 by omega) (show 0 + 1 ≤ 49 + 411 * n1 by omega) (fun aL => ?_)
  refine x_geq (g' := kmix (kT σ f) (xu gF (2000, 0) (some (aL, .inr (106, [.ref (kA σ 0 0)]))))) (kmix_xuF _ _ _ _ rfl) ?_
  refine x_callV hC xv_X2_430 dX2_fuel_8 (q := 11) rfl rfl (m_X2_behind h0 σ (xu gF (2000, 0) (some (aL, .inr (106, [.ref (kA σ 0 0)])))) f (hG.lam hL0) (hFo.lam rfl) n1 hn1 hwk (sh := xsh_6) (by0 := xby_6) (rmL := xr 2 0 0 45) (aL := aL) (x := iI (kI (kGs F (kIs σ 4 0 1) n1) 7 0)) (by decide +kernel) (fun a aw ah f2 => by
      rw [← hok]
      exact xl_lamb_6 h0 (n := (2000, 0)) rfl rfl (nn := (0, 0)) rfl (m_X2_lambda_fuel_5 h0 (kT (kOn σ (kGs F (kIs σ 4 0 1) n1)) f2) (kSF (xu gF (2000, 0) (some (aL, .inr (106, [.ref (kA σ 0 0)])))) a aw ah (iI (kI σ 3 0)) (iI (kI σ 7 0)) (kWf σ (kA σ 61 0)) (kHf σ (kA σ 62 0)) (kA σ 0 0))) (fun v g1 h => ⟨_, h.1⟩))) (nn := (0, 0)) rfl rfl rfl (Nat.le_of_ble_eq_true rfl) ⟨(show 52 + 1 ≤ 54 by omega), (show 8 + (5 + 11) + (2000 + 45) ≤ 3100 by omega)⟩ ⟨(show 0 + 1 + (3 + 66 * n1 + 0) ≤ 4 + 66 * n1 by omega), (show 0 + 1 + (48 + 411 * n1 + 0) ≤ 49 + 411 * n1 by omega)⟩ (fun v g1 hp => ?_)
  obtain ⟨f1, y1, rfl, hg1⟩ := hp
  replace hg1 := hg1.symm
  subst hg1
  refine x_sub (g' := kmix (kT (kIs σ 5 0 y1) f1) gF) (xu_back hL0) ?_
  exact x_iret hC hr dX2_fuel_11 (show 0 + 1 + (3 + 66 * n1 + 0) ≤ 4 + 66 * n1 by omega) (show 0 + 1 + (48 + 411 * n1 + 0) ≤ 49 + 411 * n1 by omega) ⟨f1, y1, rfl, rfl⟩

set_option maxHeartbeats 4000000 in
set_option maxRecDepth 100000 in
theorem m_X2_later {l : Launch} {s0 : State} {D : va_G} (h0 : x0 l s0 D) (σ : KS) (gF : xG) (f : aEnv) {F : Nat → Option (aEnv → Int64)} {d0 : Nat} (hG : KSt gF F d0 σ) (hFo : KFo s0 gF d0) (ch : Nat) (hc : ch < kA σ 61 0) (n1 : Nat) (hn1 : n1 ≤ 40) (hwk : 0 ≤ kI σ 3 0 ∧ kI σ 3 0 + n1 ≤ 999) (hL0 : gF (2000, 0) = none) : xMet l s0 D yX2_later cX2_later 4 (some .int) (xr 54 (4 + 66 * n1) (49 + 411 * n1) 3100) [.ref (kA σ 0 0), .int (nI ch), .int (nI n1)] (kmix (kT σ f) gF) (fun r g1 => ∃ f1 y, r = some (.int (iI (kI (kGs F (kIs σ 4 0 1) n1) 34 ch))) ∧ g1 = kmix (kT (kIs σ 5 0 y) f1) gF) := by
  have hok := kOn_eq (σ := σ) (τ := (kGs F (kIs σ 4 0 1) n1)) (kA_kGs (F := F) (σ := (kIs σ 4 0 1)) n1)
  refine xMet.ofN h0 (by decide +kernel) rfl ?_
  intro p e s m args below meth c hC hr hnm hnd
  refine x_aloadr_n hC dX2_later_0 (q := 1) rfl rfl ?_
  refine x_iload_n hC dX2_later_1 (q := 2) rfl rfl ?_
  refine x_callV hC xv_X2_313 dX2_later_2 (q := 5) rfl rfl (m_X2_childOf h0 (kT σ f) gF hG.2.1.1 ch hc) (nn := (0, 0)) rfl rfl rfl (Nat.le_of_ble_eq_true rfl) ⟨(Nat.le_of_ble_eq_true rfl), (Nat.le_of_ble_eq_true rfl)⟩ ⟨(show 0 + 0 ≤ 4 + 66 * n1 by omega), (show 0 + 0 ≤ 49 + 411 * n1 by omega)⟩ (fun v g1 hp => ?_)
  obtain ⟨rfl, hg1⟩ := hp
  replace hg1 := hg1.symm
  subst hg1
  refine x_astorer_n hC dX2_later_5 (q := 6) rfl rfl ?_
  refine x_aloadr_n hC dX2_later_6 (q := 7) rfl rfl ?_
  refine x_ifnonnull_r hC dX2_later_7 (tgt := 14) rfl ?_
  refine x_aloadr_n hC dX2_later_14 (q := 15) rfl rfl ?_
  refine x_iload_n hC dX2_later_15 (q := 16) rfl rfl ?_
  refine x_aloadr_n hC dX2_later_16 (q := 17) rfl rfl ?_
  refine x_indy hC hnd (index := 434) (ci := 107) (vals := [.ref (kA σ 20 ch)]) (rest := [.int (nI n1), .ref (kA σ 0 0)]) (2000, 0) xlw_7 (fun _ => rfl) rfl rfl rfl xfi_7 xli_7 (by rw [xlay_7]; rfl) rfl (fun i v hv => by
      rw [xlay_7]
      cases i with
      | zero => cases hv; rfl
      | succ j => cases hv) dX2_later_17 (q := 22) rfl rfl hL0 rfl (Nat.le_of_ble_eq_true rfl) (Nat.le_of_ble_eq_true rfl) (show 0 + 0 + 1 ≤ 4 + 66 * n1 by omega) (show 0 + 0 + 1 ≤ 49 + 411 * n1 by omega) (fun aL => ?_)
  refine x_geq (g' := kmix (kT σ f) (xu gF (2000, 0) (some (aL, .inr (107, [.ref (kA σ 20 ch)]))))) (kmix_xuF _ _ _ _ rfl) ?_
  refine x_callV hC xv_X2_430 dX2_later_22 (q := 25) rfl rfl (m_X2_behind h0 σ (xu gF (2000, 0) (some (aL, .inr (107, [.ref (kA σ 20 ch)])))) f (hG.lam hL0) (hFo.lam rfl) n1 hn1 hwk (sh := xsh_7) (by0 := xby_7) (rmL := xr 2 0 0 45) (aL := aL) (x := iI (kI (kGs F (kIs σ 4 0 1) n1) 34 ch)) (by decide +kernel) (fun a aw ah f2 => by
      rw [← hok]
      exact xl_lamb_7 h0 (n := (2000, 0)) rfl rfl (m_X2_lambda_later_6 h0 (kT (kOn σ (kGs F (kIs σ 4 0 1) n1)) f2) (kSF (xu gF (2000, 0) (some (aL, .inr (107, [.ref (kA σ 20 ch)])))) a aw ah (iI (kI σ 3 0)) (iI (kI σ 7 0)) (kWf σ (kA σ 61 0)) (kHf σ (kA σ 62 0)) (kA σ 0 0)) ch hc) (fun v g1 h => ⟨_, h.1⟩))) (nn := (0, 0)) rfl rfl rfl (Nat.le_of_ble_eq_true rfl) ⟨(show 52 + 1 ≤ 54 by omega), (show 8 + (5 + 11) + (2000 + 45) ≤ 3100 by omega)⟩ ⟨(show 0 + 0 + 1 + (3 + 66 * n1 + 0) ≤ 4 + 66 * n1 by omega), (show 0 + 0 + 1 + (48 + 411 * n1 + 0) ≤ 49 + 411 * n1 by omega)⟩ (fun v g1 hp => ?_)
  obtain ⟨f1, y1, rfl, hg1⟩ := hp
  replace hg1 := hg1.symm
  subst hg1
  refine x_sub (g' := kmix (kT (kIs σ 5 0 y1) f1) gF) (xu_back hL0) ?_
  exact x_iret hC hr dX2_later_25 (show 0 + 0 + 1 + (3 + 66 * n1 + 0) ≤ 4 + 66 * n1 by omega) (show 0 + 0 + 1 + (48 + 411 * n1 + 0) ≤ 49 + 411 * n1 by omega) ⟨f1, y1, rfl, rfl⟩
