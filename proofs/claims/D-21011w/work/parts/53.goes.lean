/-! SEVERAL WEEKS -/
/-- ρ is τ with the told rows of σ and R behind them -/
def kTR (σ τ ρ : KS) (R : List (Nat → Int)) (d0 : Nat) : Prop := ∃ X, ρ = kTd τ X ∧ kXr σ X R d0
section KTRs
variable {F : Nat → Option (aEnv → Int64)} {gu : Int32} {σ τ ρ : KS} {d0 : Nat} {gF : xG} {R : List (Nat → Int)}
theorem kTR.A (h : kTR σ τ ρ R d0) (ha : kA τ = kA σ) {f : Nat} (i : Nat) (h1 : f ≠ 63) (h2 : f ≠ 12) (h3 : f ≠ 11) (h4 : f ≠ 73) : kA ρ f i = kA σ f i := by
  obtain ⟨X, rfl, -⟩ := h
  show (if f = 63 ∧ i = 0 then X.2.1 else if f = 12 then X.2.2.1 i else if f = 11 ∧ i = 0 then X.2.2.2.1 else if f = 73 ∧ i = 0 then X.2.2.2.2.1 else kA τ f i) = _
  rw [if_neg (fun q => h1 q.1), if_neg h2, if_neg (fun q => h3 q.1), if_neg (fun q => h4 q.1), ha]
theorem kTR.cap (h : kTR σ τ ρ R d0) : KTc ρ d0 := by
  obtain ⟨X, rfl, hx⟩ := h
  exact hx.2.2.2.1
theorem kTR.V (h : kTR σ τ ρ R d0) (hv : KV τ) : KV ρ := by
  obtain ⟨X, rfl, hx⟩ := h
  refine kTd_V hv ?_ ?_
  · rcases hx.2.2.2.1 with q | q <;> omega
  · rcases hx.2.2.2.1 with q | q <;> omega
theorem kTR.len (h : kTR σ τ ρ R d0) : kA ρ 63 0 = kA σ 63 0 + R.length := by
  obtain ⟨X, rfl, hx⟩ := h
  exact hx.1
theorem kTR.Rm (h : kTR σ τ ρ R d0) (ha : kA τ = kA σ) (hr : KR σ) : KR ρ := by
  have e := h.len
  refine ⟨(h.A ha 0 (by decide) (by decide) (by decide) (by decide)).trans hr.1, fun i hi => ?_⟩
  rw [h.A ha 0 (by decide) (by decide) (by decide) (by decide)] at hi
  rw [h.A ha i (by decide) (by decide) (by decide) (by decide)]
  have := hr.2 i hi
  omega
theorem kTR.Fm (h : kTR σ τ ρ R d0) (ho : ∀ j, kO τ 2 j = kO σ 2 j) (hF : kF gF σ F) : kF gF ρ F := by
  obtain ⟨X, rfl, hx⟩ := h
  exact kF_on hF ho
theorem kTR_0 (hT : KTc σ d0) : kTR σ σ σ [] d0 := ⟨kD σ, (kTd_kD σ).symm, kXr_0 hT⟩
theorem kXr_trans {X Y : KD} {R' : List (Nat → Int)} (h : kXr σ X R d0) (h2 : kXr (kTd τ X) Y R' d0) : kXr σ Y (R ++ R') d0 := by
  obtain ⟨a1, a2, a3, a4, a5⟩ := h
  obtain ⟨b1, b2, b3, b4, b5⟩ := h2
  have e1 : kA (kTd τ X) 63 0 = X.2.1 := rfl
  have e2 : ∀ i, kA (kTd τ X) 12 i = X.2.2.1 i := fun i => rfl
  have e3 : kV (kTd τ X) 2 = X.2.2.2.2.2 := rfl
  rw [e1] at b1 b2 b3
  rw [e3] at b2
  refine ⟨by rw [b1, a1, List.length_append]; omega, fun i hi => ?_, fun i r hr => ?_, b4, fun q => ?_⟩
  · have hb := b2 i (by omega)
    rw [hb.1, hb.2, e2]
    exact a2 i hi
  · by_cases e : i < R.length
    · rw [List.getElem?_append_left e] at hr
      rw [(b2 (kA σ 63 0 + i) (by omega)).2]
      exact a3 i r hr
    · rw [List.getElem?_append_right (by omega)] at hr
      have := b3 _ _ hr
      rw [a1, show kA σ 63 0 + R.length + (i - R.length) = kA σ 63 0 + i by omega] at this
      exact this
  · have q1 := List.append_eq_nil_iff.mp q
    have e4 := b5 q1.2
    have e5 := a5 q1.1
    rw [e4]
    have e6 : kD (kTd τ X) = X := rfl
    rw [e6, e5]
theorem kTR.week (h : kTR σ τ ρ R d0) {Y : KD} (hY : kXr ρ Y (kWr F gu ρ (kA ρ 62 0)) d0) : kTR σ (kWk F gu τ) (kTd (kWk F gu ρ) Y) (R ++ kWr F gu τ (kA τ 62 0)) d0 := by
  obtain ⟨X, rfl, hx⟩ := h
  refine ⟨Y, by rw [kWk_kTd, kTd_kTd], ?_⟩
  rw [show kA (kTd τ X) 62 0 = kA τ 62 0 from rfl, kWr_kTd] at hY
  exact kXr_trans hx hY
theorem kA_kWk (τ : KS) : kA (kWk F gu τ) = kA τ := by
  unfold kWk
  rw [kA_kIs, kA_kWkN]
theorem kWk_V (h : KV τ) : KV (kWk F gu τ) := KV_kIs (kWkN_V h _) (by decide) _ _
theorem kO2_kWk (τ : KS) (j : Nat) : kO (kWk F gu τ) 2 j = kO τ 2 j := by
  unfold kWk
  rw [kO_kIs, kO2_kWkN]
end KTRs
/-- n plain weeks; the rows that they tell; how many firings -/
def kGs (F : Nat → Option (aEnv → Int64)) (σ : KS) : Nat → KS
  | 0 => σ
  | n + 1 => kWk F 0 (kGs F σ n)
def kRs (F : Nat → Option (aEnv → Int64)) (σ : KS) : Nat → List (Nat → Int)
  | 0 => []
  | n + 1 => kRs F σ n ++ kWr F 0 (kGs F σ n) (kA (kGs F σ n) 62 0)
def kSm (F : Nat → Option (aEnv → Int64)) (σ : KS) : Nat → Int32
  | 0 => 0
  | n + 1 => kSm F σ n + jbits (iI (kI (kGs F σ (n + 1)) 5 0))
section KGS
variable {F : Nat → Option (aEnv → Int64)} {σ : KS}
theorem kA_kGs : ∀ n, kA (kGs F σ n) = kA σ := by
  intro n
  induction n with
  | zero => rfl
  | succ n ih => show kA (kWk F 0 (kGs F σ n)) = _; rw [kA_kWk, ih]
theorem kGs_V (h : KV σ) : ∀ n, KV (kGs F σ n) := by
  intro n
  induction n with
  | zero => exact h
  | succ n ih => exact kWk_V ih
theorem kO2_kGs : ∀ n j, kO (kGs F σ n) 2 j = kO σ 2 j := by
  intro n
  induction n with
  | zero => intro j; rfl
  | succ n ih => intro j; show kO (kWk F 0 (kGs F σ n)) 2 j = _; rw [kO2_kWk, ih]
end KGS

set_option maxHeartbeats 4000000 in
set_option maxRecDepth 100000 in
theorem m_X2_goes {l : Launch} {s0 : State} {D : va_G} (h0 : x0 l s0 D) (σ : KS) (gF : xG) (f : aEnv) {F : Nat → Option (aEnv → Int64)} {d0 : Nat} (hF : kF gF σ F) (hv : KV σ) (hKR : KR σ) (hT : KTc σ d0) (hz : xE0 s0 gF d0) (hNB : kNB gF) (h60 : gF (60, 0) = none) (h53 : gF (53, 0) = none) (n1 : Nat) (hn1 : n1 ≤ 40) (h7 : ∀ k, k < n1 → kA σ 63 0 + (kRs F σ k).length ≤ 7) : xMet l s0 D yX2_goes cX2_goes 4 (some .int) (xr 42 (66 * n1) (411 * n1) 1900) [.ref (kA σ 0 0), .int (nI n1)] (kmix (kT σ f) gF) (fun r g1 => ∃ f1 ρ, r = some (.int (kSm F σ n1)) ∧ kTR σ (kGs F σ n1) ρ (kRs F σ n1) d0 ∧ g1 = kmix (kT ρ f1) gF) := by
  refine xMet.of h0 (by decide +kernel) rfl ?_
  intro p e s m args below meth c hC hr hnm
  refine x_iconst hC dX2_goes_0 (q := 1) rfl (v := (0)) (by decide) ?_
  refine x_istore_n hC dX2_goes_1 (q := 2) rfl rfl ?_
  refine x_iconst hC dX2_goes_2 (q := 3) rfl (v := (0)) (by decide) ?_
  refine x_istore_n hC dX2_goes_3 (q := 4) rfl rfl ?_
  refine x_loop (S := (fun i : Nat × aEnv × KS => (66 * i.1, 411 * i.1, kmix (kT i.2.2 i.2.1) gF, ([some (.ref (kA i.2.2 0 0)), some (.int (nI n1)), some (.int (kSm F σ i.1)), some (.int (nI i.1))] : xL), ([] : List Value)))) (Inv := fun i => i.1 ≤ n1 ∧ kTR σ (kGs F σ i.1) i.2.2 (kRs F σ i.1) d0) (μ := fun i => n1 - i.1) ?_ (0, f, σ) ⟨Nat.zero_le _, kTR_0 hT⟩
  intro ⟨k1, f2, ρ⟩ hi ih
  dsimp only at hi ih ⊢
  obtain ⟨hi1, hI⟩ := hi
  have hA := kA_kGs (F := F) (σ := σ) k1
  refine x_iload_n hC dX2_goes_4 (q := 5) rfl rfl ?_
  refine x_iload_n hC dX2_goes_5 (q := 6) rfl rfl ?_
  refine x_icmp_ge hC dX2_goes_6 (q := 9) rfl (tgt := 30) rfl (fun h6 => ?_) (fun h6 => ?_)
  · have hk3 : k1 = n1 := by
      have := (nI_leI (by omega) (by omega)).mp h6
      omega
    refine x_iload_n hC dX2_goes_30 (q := 31) rfl rfl ?_
    exact x_iret hC hr dX2_goes_31 (show 66 * k1 ≤ 66 * n1 by omega) (show 411 * k1 ≤ 411 * n1 by omega) ⟨f2, ρ, by rw [← hk3], by rw [← hk3]; exact hI, rfl⟩
  have hk2 : k1 < n1 := Nat.lt_of_not_le (fun q => h6 (nI_le q (by omega)))
  refine x_aloadr_n hC dX2_goes_9 (q := 10) rfl rfl ?_
  refine x_iconst hC dX2_goes_10 (q := 11) rfl (v := (0)) (by decide) ?_
  refine x_callV hC xv_X2_264 dX2_goes_11 (q := 14) rfl rfl (m_X2_weekGoes h0 ρ gF f2 (hI.Fm (kO2_kGs k1) hF) (hI.V (kGs_V hv k1)) (hI.Rm hA hKR) hI.cap hz (by rw [hI.len]; exact h7 k1 hk2) hNB h60 h53 0) (nn := (0, 0)) rfl rfl rfl (Nat.le_of_ble_eq_true rfl) ⟨(Nat.le_of_ble_eq_true rfl), (Nat.le_of_ble_eq_true rfl)⟩ ⟨(show 66 * k1 + 66 ≤ 66 * n1 by omega), (show 411 * k1 + 411 ≤ 411 * n1 by omega)⟩ (fun v g1 hp => ?_)
  obtain ⟨f3, Y, rfl, hY, hg1⟩ := hp
  replace hg1 := hg1.symm
  subst hg1
  refine x_geq (g' := kmix (kT (kTd (kOn ρ (kWk F 0 ρ)) Y) f3) gF) (by rw [kOn_eq (σ := ρ) (τ := kWk F 0 ρ) (kA_kWk _)]) ?_
  refine x_iload_n hC dX2_goes_14 (q := 15) rfl rfl ?_
  refine x_aloadr_n hC dX2_goes_15 (q := 16) rfl rfl ?_
  refine x_get hC xf_X2_220_1 dX2_goes_16 (q := 19) rfl (n := (0, 0)) rfl rfl ?_
  refine x_callS hC xv_X2_267 dX2_goes_19 (q := 22) rfl rfl (m_J12_bitCount h0 _ _) rfl (Nat.le_of_ble_eq_true rfl) ⟨(Nat.le_of_ble_eq_true rfl), (Nat.le_of_ble_eq_true rfl)⟩ ⟨(show 66 * k1 + 66 ≤ 66 * n1 by omega), (show 411 * k1 + 411 ≤ 411 * n1 by omega)⟩ (fun v g1 hp => ?_)
  obtain ⟨rfl, hg1⟩ := hp
  replace hg1 := hg1.symm
  subst hg1
  refine x_iadd hC dX2_goes_22 (q := 23) rfl ?_
  refine x_istore_n hC dX2_goes_23 (q := 24) rfl rfl ?_
  refine x_iinc hC dX2_goes_24 (q := 27) rfl rfl (v := nI (k1 + 1)) (nI_1 k1) ?_
  refine x_goto hC dX2_goes_27 (tgt := 4) rfl ?_
  have hI2 := hI.week (F := F) (gu := 0) hY
  refine x_widen (k0 := 66 * (k1 + 1)) (n0 := 411 * (k1 + 1)) (by dsimp only [xr]; omega) (by dsimp only [xr]; omega) ?_
  refine x_geq (g' := kmix (kT (kTd (kWk F 0 ρ) Y) f3) gF) (by rw [kOn_eq (σ := ρ) (τ := kWk F 0 ρ) (kA_kWk _)]) ?_
  refine x_lvle (lv' := [some (.ref (kA (kTd (kWk F 0 ρ) Y) 0 0)), some (.int (nI n1)), some (.int (kSm F σ (k1 + 1))), some (.int (nI (k1 + 1)))]) (by
    have e1 : kA (kTd (kWk F 0 ρ) Y) 0 0 = kA ρ 0 0 := by rw [show kA (kTd (kWk F 0 ρ) Y) 0 0 = kA (kWk F 0 ρ) 0 0 from rfl, kA_kWk]
    have e2 : kSm F σ (k1 + 1) = kSm F σ k1 + jbits (iI (kI (kTd (kOn ρ (kWk F 0 ρ)) Y) 5 0)) := by
      show kSm F σ k1 + jbits (iI (kI (kWk F 0 (kGs F σ k1)) 5 0)) = kSm F σ k1 + jbits (iI (kI (kWk F 0 ρ) 5 0))
      obtain ⟨X, rfl, -⟩ := hI
      rw [kWk_kTd]
      rfl
    rw [e1, e2]
    repeat' constructor) ?_
  exact ih (k1 + 1, f3, (kTd (kWk F 0 ρ) Y)) ⟨by dsimp only; omega, hI2⟩ (by dsimp only; omega)
