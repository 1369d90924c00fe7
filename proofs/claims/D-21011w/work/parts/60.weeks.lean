/-! weeks, chance -/
theorem kKp_kT {σ σ1 : KS} {d0 : Nat} {f : aEnv} (h : kKp (kT σ f) σ1 d0) : ∃ σ2, σ1 = kT σ2 f ∧ kKp σ σ2 d0 := by
  obtain ⟨T, a, aw, ah, al, d, da, cap, h1, h2, h3, h4, h5⟩ := h
  rcases h1 with ⟨rfl, h1⟩ | ⟨rfl, h1⟩
  · exact ⟨kPush σ a aw ah al d da cap, h5, σ, a, aw, ah, al, d, da, cap, Or.inl ⟨rfl, h1⟩, h2, h3, h4, rfl⟩
  · exact ⟨kPush (kShift σ) a aw ah al d da cap, h5, kShift σ, a, aw, ah, al, d, da, cap, Or.inr ⟨rfl, h1⟩, h2, h3, h4, rfl⟩
theorem kRl_I (f : Nat) (q : kRl f = true) : kfI f = true := by
  rcases Nat.lt_or_ge f 42 with h | h
  · exact (by decide : ∀ f, f < 42 → kRl f = true → kfI f = true) f h q
  · obtain ⟨n, rfl⟩ := Nat.exists_eq_add_of_le h
    rw [Nat.add_comm] at q
    have e : kRl (n + 42) = false := rfl
    rw [e] at q; cases q
section KKP
variable {σ σ1 : KS} {d0 : Nat} {F : Nat → Option (aEnv → Int64)} {gF : xG}
theorem kKp.Pl (h : kKp σ σ1 d0) (hp : KPl σ) : KPl σ1 := by
  refine ⟨fun q p c => ?_, fun c q hc hq => ?_, fun c hc hq => ?_⟩
  · rw [h.O, h.A rfl, h.I rfl]; exact hp.1 q p c
  · rw [h.A rfl] at hc; rw [h.O] at hq; rw [h.A rfl, h.A rfl, h.I rfl]; exact hp.2.1 c q hc hq
  · rw [h.A rfl] at hc; rw [h.O] at hq; rw [h.I rfl]; exact hp.2.2 c hc hq
theorem kKp.Nb (h : kKp σ σ1 d0) (hp : KNb σ) : KNb σ1 := by
  refine ⟨fun c hc => ?_, fun q hq => ?_⟩
  · rw [h.A rfl] at hc; rw [h.I rfl, h.I rfl, h.I rfl]; exact hp.1 c hc
  · rw [h.A rfl] at hq; rw [h.I rfl]; exact hp.2 q hq
theorem kKp.Tc (h : kKp σ σ1 d0) (hp : KTc σ d0) : KTc σ1 d0 := by
  unfold KTc
  rw [h.A rfl, h.A rfl, h.A rfl]; exact hp
theorem kKp.Rr (h : kKp σ σ1 d0) (hp : KR σ) : KR σ1 := by
  refine ⟨by rw [h.A rfl]; exact hp.1, fun i hi => ?_⟩
  rw [h.A (f := 63) rfl]
  obtain ⟨T, a, aw, ah, al, d, da, cap, h1, h2, h3, h4, rfl⟩ := h
  have e1 : kA (kPush T a aw ah al d da cap) 65 0 = kA T 65 0 + 1 := rfl
  have e2 : ∀ i, kA (kPush T a aw ah al d da cap) 66 i = if i = kA T 65 0 then kA T 63 0 else kA T 66 i := by
    intro i
    show (if (66 : Nat) = 65 ∧ i = 0 then kA T 65 0 + 1 else if (66 : Nat) = 17 ∧ i = 0 then da else if (66 : Nat) = 75 ∧ i = 0 then cap else if i = kA T 65 0 ∧ (66 : Nat) = 30 then a else if i = kA T 65 0 ∧ (66 : Nat) = 31 then aw else if i = kA T 65 0 ∧ (66 : Nat) = 32 then ah else if i = kA T 65 0 ∧ (66 : Nat) = 33 then al else if i = kA T 65 0 ∧ (66 : Nat) = 34 then d else if i = kA T 65 0 ∧ (66 : Nat) = 66 then kA T 63 0 else if i = kA T 65 0 ∧ (66 : Nat) = 76 then (if kA T 63 0 = 0 then 0 else 10) else kA T 66 i) = _
    by_cases e : i = kA T 65 0 <;> simp [e]
  rw [e1] at hi
  rw [e2]
  rcases h1 with ⟨rfl, h1⟩ | ⟨rfl, h1⟩
  · by_cases e : i = kA T 65 0
    · rw [if_pos e]; exact Nat.le_refl _
    · rw [if_neg e]; exact hp.2 i (by omega)
  · have e3 : kA (kShift σ) 65 0 = kA σ 65 0 - 1 := rfl
    have e4 : kA (kShift σ) 63 0 = kA σ 63 0 := rfl
    have e5 : kA (kShift σ) 66 i = kA σ 66 (i + 1) := rfl
    by_cases e : i = kA (kShift σ) 65 0
    · rw [if_pos e, e4]; exact Nat.le_refl _
    · rw [if_neg e, e5]; exact hp.2 (i + 1) (by omega)
theorem kKp.E (h : kKp σ σ1 d0) : kEy σ1 σ := by
  refine ⟨fun f k q => ?_, h.O, ?_, h.A rfl 0, h.A rfl 0⟩
  · have := kRl_I f q
    exact h.I this k
  · funext q; exact h.A rfl q
theorem kKp.St (h : kKp σ σ1 d0) (hs : KSt gF F d0 σ) : KSt gF F d0 σ1 := by
  obtain ⟨a1, a2, a3, a4, a5, a6, a7, a8, a9⟩ := hs
  refine ⟨kF_on a1 (fun j => by rw [h.O]), h.KV a2, h.Pl a3, h.Nb a4, h.Rr a5, h.Tc a6, ⟨h.acts.2.1, Or.inr ⟨h.acts.2.2.1, h.acts.2.2.2.1⟩⟩, by rw [h.A rfl]; exact a8, by rw [h.I rfl]; exact a9⟩
end KKP

set_option maxHeartbeats 4000000 in
set_option maxRecDepth 100000 in
theorem m_X2_weeks {l : Launch} {s0 : State} {D : va_G} (h0 : x0 l s0 D) (σ : KS) (gF : xG) (f : aEnv) {F : Nat → Option (aEnv → Int64)} {d0 : Nat} (hG : KSt gF F d0 σ) (hFo : KFo s0 gF d0) (n1 : Nat) (hn0 : 1 ≤ n1 ∧ n1 ≤ 40) (hwk : 0 ≤ kI σ 3 0 ∧ kI σ 3 0 + n1 ≤ 999) (h77 : ∀ k, k < n1 → kA σ 63 0 + (kRs F σ k).length ≤ 7) : xMet l s0 D yX2_weeks cX2_weeks 2 (some .int) (xr 44 (25 + 66 * n1) (340 + 411 * n1) 2000) [.ref (kA σ 0 0), .int (nI n1)] (kmix (kT σ f) gF) (fun r g1 => ∃ f1 σ1 ρ, r = some (.int (kSm F σ n1)) ∧ kKp σ σ1 d0 ∧ kTR σ1 (kGs F σ1 n1) ρ (kRs F σ1 n1) d0 ∧ g1 = kmix (kT ρ f1) gF) := by
  have hG0 := hG
  obtain ⟨-, hv, -, -, -, -, hac, h7, -⟩ := hG0
  refine xMet.of h0 (by decide +kernel) rfl ?_
  intro p e s m args below meth c hC hr hnm
  refine x_aloadr_n hC dX2_weeks_0 (q := 1) rfl rfl ?_
  refine x_iload_n hC dX2_weeks_1 (q := 2) rfl rfl ?_
  refine x_iconst hC dX2_weeks_2 (q := 3) rfl (v := (1)) (by decide) ?_
  refine x_bipush hC dX2_weeks_3 (q := 5) rfl (v := (40)) (by decide) ?_
  refine x_callV hC xv_X2_289 dX2_weeks_5 (q := 8) rfl rfl (m_X2_isAhead h0 (kT σ f) gF (nI n1) 1 40 ⟨by rw [nI_toInt (by omega)]; first | omega | (show (1 : Int) ≤ _; omega) | (show _ ≤ (40 : Int); omega), by rw [nI_toInt (by omega)]; first | omega | (show (1 : Int) ≤ _; omega) | (show _ ≤ (40 : Int); omega)⟩ (show iB (kI σ 3 0 + (nI n1).toInt) from ⟨by rw [nI_toInt (by omega)]; first | omega | (show (1 : Int) ≤ _; omega) | (show _ ≤ (40 : Int); omega), by rw [nI_toInt (by omega)]; first | omega | (show (1 : Int) ≤ _; omega) | (show _ ≤ (40 : Int); omega)⟩) (show kI σ 3 0 + (nI n1).toInt ≤ 999 by rw [nI_toInt (by omega)]; first | omega | (show (1 : Int) ≤ _; omega) | (show _ ≤ (40 : Int); omega))) (nn := (0, 0)) rfl rfl rfl (Nat.le_of_ble_eq_true rfl) ⟨(Nat.le_of_ble_eq_true rfl), (Nat.le_of_ble_eq_true rfl)⟩ ⟨(show 0 + 0 ≤ 25 + 66 * n1 by omega), (show 0 + 0 ≤ 340 + 411 * n1 by omega)⟩ (fun v g1 hp => ?_)
  obtain ⟨rfl, hg1⟩ := hp
  replace hg1 := hg1.symm
  subst hg1
  refine x_if_ne hC dX2_weeks_8 (q := 11) rfl (tgt := 17) rfl (fun h8 => ?_) (fun h8 => ?_)
  · refine x_aloadr_n hC dX2_weeks_17 (q := 18) rfl rfl ?_
    refine x_callV hC xv_X2_293 dX2_weeks_18 (q := 21) rfl rfl (m_X2_keeps h0 (kT σ f) gF hv.1 hFo.1 (show kA σ 63 0 ≤ 10 by omega) hFo.n48 (hFo.at 54 0 (by decide) (by decide)) hac) (nn := (0, 0)) rfl rfl rfl (Nat.le_of_ble_eq_true rfl) ⟨(Nat.le_of_ble_eq_true rfl), (Nat.le_of_ble_eq_true rfl)⟩ ⟨(show 0 + 25 ≤ 25 + 66 * n1 by omega), (show 0 + 340 ≤ 340 + 411 * n1 by omega)⟩ (fun v g1 hp => ?_)
    obtain ⟨σ0, rfl, hkp0, hg1⟩ := hp
    replace hg1 := hg1.symm
    subst hg1
    obtain ⟨σ1, rfl, hkp⟩ := kKp_kT hkp0
    clear hkp0
    have hG1 := hkp.St hG
    obtain ⟨hF1, hv1, hp1, hn1, hKR1, hT1, hac1, h71, h41⟩ := hG1
    rw [show kA σ 0 0 = kA σ1 0 0 from (hkp.A rfl 0).symm]
    refine x_aloadr_n hC dX2_weeks_21 (q := 22) rfl rfl ?_
    refine x_iload_n hC dX2_weeks_22 (q := 23) rfl rfl ?_
    refine x_callV hC xv_X2_296 dX2_weeks_23 (q := 26) rfl rfl (m_X2_goes h0 σ1 gF f hF1 hv1 hKR1 hT1 hFo.1 hFo.NB (hFo.at 60 0 (by decide) (by decide)) (hFo.at 53 0 (by decide) (by decide)) n1 (by omega) (fun k hk => by rw [hkp.A rfl, kRs_E hkp.E (hkp.I rfl 0)]; exact h77 k hk)) (nn := (0, 0)) rfl rfl rfl (Nat.le_of_ble_eq_true rfl) ⟨(Nat.le_of_ble_eq_true rfl), (Nat.le_of_ble_eq_true rfl)⟩ ⟨(show 0 + 0 + 25 + 66 * n1 ≤ 25 + 66 * n1 by omega), (show 0 + 0 + 340 + 411 * n1 ≤ 340 + 411 * n1 by omega)⟩ (fun v g1 hp => ?_)
    obtain ⟨f1, ρ, rfl, hr1, hg1⟩ := hp
    replace hg1 := hg1.symm
    subst hg1
    exact x_iret hC hr dX2_weeks_26 (show 0 + 0 + 25 + 66 * n1 ≤ 25 + 66 * n1 by omega) (show 0 + 0 + 340 + 411 * n1 ≤ 340 + 411 * n1 by omega) ⟨f1, σ1, ρ, by rw [kSm_E hkp.E], hkp, hr1, rfl⟩
  · exact absurd h8 (by decide)

/-- a draw; the gust of a week by the seed; the seed behind it -/
def kDr (z : Int64) (m : Int32) : Int32 := (kDraw z / 64 - kDraw z / 64 / m.toInt64 * m.toInt64).toInt32
def kGu (σ : KS) : Int32 := if kDr (kL σ 1 0) 100 < iI (kI σ 9 0) then 1 + kDr (kDraw (kL σ 1 0)) 3 else 0
def kSe (σ : KS) : Int64 := if kDr (kL σ 1 0) 100 < iI (kI σ 9 0) then kDraw (kDraw (kL σ 1 0)) else kDraw (kL σ 1 0)
theorem kLs_kT (σ : KS) (f : aEnv) (v : Int64) : kLs (kT σ f) 1 0 v = kT (kLs σ 1 0 v) f := by
  refine KS_ext rfl rfl rfl rfl ?_
  funext a j
  show (if a = 1 ∧ j = 0 then v else if a = 0 then f j else kL σ a j) = (if a = 0 then f j else if a = 1 ∧ j = 0 then v else kL σ a j)
  by_cases h : a = 0
  · subst h; simp
  · simp [h]
theorem kLs_kLs (σ : KS) (v w : Int64) : kLs (kLs σ 1 0 v) 1 0 w = kLs σ 1 0 w := by
  refine KS_ext rfl rfl rfl rfl ?_
  funext a j
  rw [kL_kLs, kL_kLs, kL_kLs]
  split <;> rfl
theorem kKp.L1 {σ σ1 : KS} {d0 : Nat} (h : kKp σ σ1 d0) : kSe σ1 = kSe σ ∧ kGu σ1 = kGu σ := by
  unfold kSe kGu
  rw [h.L, h.I rfl]
  exact ⟨rfl, rfl⟩

set_option maxHeartbeats 4000000 in
set_option maxRecDepth 100000 in
theorem m_X2_chance {l : Launch} {s0 : State} {D : va_G} (h0 : x0 l s0 D) (σ : KS) (gF : xG) (f : aEnv) {F : Nat → Option (aEnv → Int64)} {d0 : Nat} (hG : KSt gF F d0 σ) (hFo : KFo s0 gF d0) (hwk : 0 ≤ kI σ 3 0 ∧ kI σ 3 0 + 1 ≤ 999) : xMet l s0 D yX2_chance cX2_chance 5 (some .int) (xr 44 91 751 2000) [.ref (kA σ 0 0), .int 1] (kmix (kT σ f) gF) (fun r g1 => ∃ f1 σ1 ρ, r = some (.int (if 0 < kGu σ then 1 else 0)) ∧ kKp σ σ1 d0 ∧ kTR (kLs σ1 1 0 (kSe σ)) (kWk F (kGu σ) (kLs σ1 1 0 (kSe σ))) ρ (kWr F (kGu σ) (kLs σ1 1 0 (kSe σ)) (kA σ1 62 0)) d0 ∧ g1 = kmix (kT ρ f1) gF) := by
  have hG0 := hG
  obtain ⟨-, hv, -, -, -, -, hac, h7, -⟩ := hG0
  refine xMet.of h0 (by decide +kernel) rfl ?_
  intro p e s m args below meth c hC hr hnm
  refine x_aloadr_n hC dX2_chance_0 (q := 1) rfl rfl ?_
  refine x_iload_n hC dX2_chance_1 (q := 2) rfl rfl ?_
  refine x_iconst hC dX2_chance_2 (q := 3) rfl (v := (1)) (by decide) ?_
  refine x_bipush hC dX2_chance_3 (q := 5) rfl (v := (40)) (by decide) ?_
  refine x_callV hC xv_X2_289 dX2_chance_5 (q := 8) rfl rfl (m_X2_isAhead h0 (kT σ f) gF (1 : Int32) 1 40 ⟨by first | decide | (show _ ≤ (999 : Int); omega) | (show (-2147483648 : Int) ≤ kI σ 3 0 + 1; omega) | (show kI σ 3 0 + 1 < (2147483648 : Int); omega) | (show kI σ 3 0 + 1 ≤ 999; omega), by first | decide | (show _ ≤ (999 : Int); omega) | (show (-2147483648 : Int) ≤ kI σ 3 0 + 1; omega) | (show kI σ 3 0 + 1 < (2147483648 : Int); omega) | (show kI σ 3 0 + 1 ≤ 999; omega)⟩ (show iB (kI σ 3 0 + (1 : Int32).toInt) from ⟨by first | decide | (show _ ≤ (999 : Int); omega) | (show (-2147483648 : Int) ≤ kI σ 3 0 + 1; omega) | (show kI σ 3 0 + 1 < (2147483648 : Int); omega) | (show kI σ 3 0 + 1 ≤ 999; omega), by first | decide | (show _ ≤ (999 : Int); omega) | (show (-2147483648 : Int) ≤ kI σ 3 0 + 1; omega) | (show kI σ 3 0 + 1 < (2147483648 : Int); omega) | (show kI σ 3 0 + 1 ≤ 999; omega)⟩) (show kI σ 3 0 + (1 : Int32).toInt ≤ 999 by first | decide | (show _ ≤ (999 : Int); omega) | (show (-2147483648 : Int) ≤ kI σ 3 0 + 1; omega) | (show kI σ 3 0 + 1 < (2147483648 : Int); omega) | (show kI σ 3 0 + 1 ≤ 999; omega))) (nn := (0, 0)) rfl rfl rfl (Nat.le_of_ble_eq_true rfl) ⟨(Nat.le_of_ble_eq_true rfl), (Nat.le_of_ble_eq_true rfl)⟩ ⟨(Nat.le_of_ble_eq_true rfl), (Nat.le_of_ble_eq_true rfl)⟩ (fun v g1 hp => ?_)
  obtain ⟨rfl, hg1⟩ := hp
  replace hg1 := hg1.symm
  subst hg1
  refine x_if_ne hC dX2_chance_8 (q := 11) rfl (tgt := 17) rfl (fun h8 => ?_) (fun h8 => ?_)
  · refine x_aloadr_n hC dX2_chance_17 (q := 18) rfl rfl ?_
    refine x_callV hC xv_X2_293 dX2_chance_18 (q := 21) rfl rfl (m_X2_keeps h0 (kT σ f) gF hv.1 hFo.1 (show kA σ 63 0 ≤ 10 by omega) hFo.n48 (hFo.at 54 0 (by decide) (by decide)) hac) (nn := (0, 0)) rfl rfl rfl (Nat.le_of_ble_eq_true rfl) ⟨(Nat.le_of_ble_eq_true rfl), (Nat.le_of_ble_eq_true rfl)⟩ ⟨(Nat.le_of_ble_eq_true rfl), (Nat.le_of_ble_eq_true rfl)⟩ (fun v g1 hp => ?_)
    obtain ⟨σ0, rfl, hkp0, hg1⟩ := hp
    replace hg1 := hg1.symm
    subst hg1
    obtain ⟨σ1, rfl, hkp⟩ := kKp_kT hkp0
    clear hkp0
    have hG1 := hkp.St hG
    obtain ⟨hF1, hv1, hp1, hn1, hKR1, hT1, hac1, h71, h41⟩ := hG1
    rw [show kA σ 0 0 = kA σ1 0 0 from (hkp.A rfl 0).symm]
    refine x_iconst hC dX2_chance_21 (q := 22) rfl (v := (0)) (by decide) ?_
    refine x_istore_n hC dX2_chance_22 (q := 23) rfl rfl ?_
    refine x_iconst hC dX2_chance_23 (q := 24) rfl (v := (0)) (by decide) ?_
    refine x_istore_n hC dX2_chance_24 (q := 25) rfl rfl ?_
    refine x_loop (S := (fun i : Nat × aEnv × KS × Int32 => (25 + 66 * i.1, 340 + 411 * i.1, kmix (kT i.2.2.1 i.2.1) gF, ([some (.ref (kA i.2.2.1 0 0)), some (.int 1), some (.int i.2.2.2), some (.int (nI i.1)), none] : xL), ([] : List Value)))) (Inv := fun i => (i.1 = 0 ∧ i.2.2.1 = σ1 ∧ i.2.2.2 = 0) ∨ (i.1 = 1 ∧ kTR (kLs σ1 1 0 (kSe σ1)) (kWk F (kGu σ1) (kLs σ1 1 0 (kSe σ1))) i.2.2.1 (kWr F (kGu σ1) (kLs σ1 1 0 (kSe σ1)) (kA (kLs σ1 1 0 (kSe σ1)) 62 0)) d0 ∧ i.2.2.2 = (if 0 < kGu σ1 then 1 else 0))) (μ := fun i => 1 - i.1) ?_ (0, f, σ1, 0) (Or.inl ⟨rfl, rfl, rfl⟩)
    intro ⟨k1, f2, ρ, gs⟩ hi ih
    dsimp only at hi ih ⊢
    refine x_iload_n hC dX2_chance_25 (q := 26) rfl rfl ?_
    refine x_iload_n hC dX2_chance_26 (q := 27) rfl rfl ?_
    refine x_icmp_ge hC dX2_chance_27 (q := 30) rfl (tgt := 79) rfl (fun h27 => ?_) (fun h27 => ?_)
    · have hk1 : k1 = 1 := by
        rcases hi with q | q
        · rw [q.1] at h27; exact absurd h27 (by decide)
        · exact q.1
      subst hk1
      obtain ⟨-, hfin, rfl⟩ : (1 : Nat) = 1 ∧ kTR (kLs σ1 1 0 (kSe σ1)) (kWk F (kGu σ1) (kLs σ1 1 0 (kSe σ1))) ρ (kWr F (kGu σ1) (kLs σ1 1 0 (kSe σ1)) (kA (kLs σ1 1 0 (kSe σ1)) 62 0)) d0 ∧ gs = (if 0 < kGu σ1 then 1 else 0) := by
        rcases hi with q | q
        · exact absurd q.1 (by decide)
        · exact q
      refine x_iload_n hC dX2_chance_79 (q := 80) rfl rfl ?_
      exact x_iret hC hr dX2_chance_80 (show 25 + 66 * 1 ≤ 91 by omega) (show 340 + 411 * 1 ≤ 751 by omega) ⟨f2, σ1, ρ, by rw [hkp.L1.2], hkp, by rw [← hkp.L1.1, ← hkp.L1.2]; exact hfin, rfl⟩
    have hk1 : k1 = 0 ∧ ρ = σ1 ∧ gs = 0 := by
      rcases hi with q | q
      · exact q
      · rw [q.1] at h27; exact absurd (by decide) h27
    obtain ⟨rfl, rfl, rfl⟩ := hk1
    clear hi h27
    refine x_cut 67 (fun i : Int32 => (25 + 66 * 0, 340 + 411 * 0, kmix (kT (kLs ρ 1 0 (kSe ρ)) f2) gF, ([some (.ref (kA ρ 0 0)), some (.int 1), some (.int i), some (.int (nI 0)), some (.int (kGu ρ))] : xL), ([] : List Value))) (fun i => i = (if 0 < kGu ρ then 1 else 0)) ?_ (fun hcut => ?_)
    · intro gx hgx
      dsimp only
      refine x_aloadr_n hC dX2_chance_67 (q := 68) rfl rfl ?_
      refine x_iload hC dX2_chance_68 (q := 70) rfl rfl ?_
      refine x_callV hC xv_X2_264 dX2_chance_70 (q := 73) rfl rfl (m_X2_weekGoes h0 (kLs ρ 1 0 (kSe ρ)) gF f2 hF1 hv1 hKR1 hT1 hFo.1 h71 hFo.NB (hFo.at 60 0 (by decide) (by decide)) (hFo.at 53 0 (by decide) (by decide)) (kGu ρ)) (nn := (0, 0)) rfl rfl rfl (Nat.le_of_ble_eq_true rfl) ⟨(Nat.le_of_ble_eq_true rfl), (Nat.le_of_ble_eq_true rfl)⟩ ⟨(show 25 + 66 * 0 + 66 ≤ 91 by omega), (show 340 + 411 * 0 + 411 ≤ 751 by omega)⟩ (fun v g1 hp => ?_)
      obtain ⟨f3, Y, rfl, hY, hg1⟩ := hp
      replace hg1 := hg1.symm
      subst hg1
      refine x_iinc hC dX2_chance_73 (q := 76) rfl rfl (v := nI 1) rfl ?_
      refine x_goto hC dX2_chance_76 (tgt := 25) rfl ?_
      refine x_lvle (lv' := [some (.ref (kA (kTd (kWk F (kGu ρ) (kLs ρ 1 0 (kSe ρ))) Y) 0 0)), some (.int 1), some (.int gx), some (.int (nI 1)), none]) (by
        rw [show kA (kTd (kWk F (kGu ρ) (kLs ρ 1 0 (kSe ρ))) Y) 0 0 = kA (kWk F (kGu ρ) (kLs ρ 1 0 (kSe ρ))) 0 0 from rfl, kA_kWk]
        repeat' constructor) ?_
      exact ih (1, f3, (kTd (kWk F (kGu ρ) (kLs ρ 1 0 (kSe ρ))) Y), gx) (Or.inr ⟨rfl, (kTR_0 (σ := (kLs ρ 1 0 (kSe ρ))) hT1).week hY, hgx⟩) (by dsimp only; omega)
    refine x_aloadr_n hC dX2_chance_30 (q := 31) rfl rfl ?_
    refine x_bipush hC dX2_chance_31 (q := 33) rfl (v := (100)) (by decide) ?_
    refine x_callV hC xv_X2_299 dX2_chance_33 (q := 36) rfl rfl (m_X2_drawOf h0 (kT ρ f2) gF 100 (by decide)) (nn := (0, 0)) rfl rfl rfl (Nat.le_of_ble_eq_true rfl) ⟨(Nat.le_of_ble_eq_true rfl), (Nat.le_of_ble_eq_true rfl)⟩ ⟨(show 25 + 66 * 0 + 0 ≤ 91 by omega), (show 340 + 411 * 0 + 0 ≤ 751 by omega)⟩ (fun v g1 hp => ?_)
    obtain ⟨rfl, hg1⟩ := hp
    replace hg1 := hg1.symm
    subst hg1
    refine x_geq (g' := kmix (kT (kLs ρ 1 0 (kDraw (kL ρ 1 0))) f2) gF) (by rw [kLs_kT]; rfl) ?_
    refine x_steq (st1 := [.int (kDr (kL ρ 1 0) 100)]) rfl ?_
    refine x_aloadr_n hC dX2_chance_36 (q := 37) rfl rfl ?_
    refine x_get hC xf_X2_20_1 dX2_chance_37 (q := 40) rfl (n := (0, 0)) rfl rfl ?_
    refine x_get hC xf_X2_302_2 dX2_chance_40 (q := 43) rfl (n := (3, 0)) rfl rfl ?_
    refine x_icmp_ge hC dX2_chance_43 (q := 46) rfl (tgt := 56) rfl (fun h43 => ?_) (fun h43 => ?_)
    · have hnd : ¬ kDr (kL ρ 1 0) 100 < iI (kI ρ 9 0) := Int32.not_lt.mpr h43
      have hgu : kGu ρ = 0 := if_neg hnd
      have hse : kSe ρ = kDraw (kL ρ 1 0) := if_neg hnd
      rw [← hse]
      refine x_iconst hC dX2_chance_56 (q := 57) rfl (v := (0)) (by decide) ?_
      refine x_steq (st1 := [.int (kGu ρ)]) (by rw [hgu]) ?_
      refine x_istore hC dX2_chance_57 (q := 59) rfl rfl ?_
      refine x_iload hC dX2_chance_59 (q := 61) rfl rfl ?_
      refine x_if_le hC dX2_chance_61 (q := 64) rfl (tgt := 67) rfl (fun h61 => ?_) (fun h61 => ?_)
      · have hx : (0 : Int32) = (if 0 < kGu ρ then 1 else 0) := (if_neg (Int32.not_lt.mpr h61)).symm
        exact hcut _ hx
      have hx : (1 : Int32) = (if 0 < kGu ρ then 1 else 0) := (if_pos (Int32.not_le.mp h61)).symm
      refine x_iinc hC dX2_chance_64 (q := 67) rfl rfl (v := 1) (by decide) ?_
      exact hcut _ hx
    have hnd : kDr (kL ρ 1 0) 100 < iI (kI ρ 9 0) := Int32.not_le.mp h43
    have hgu : kGu ρ = 1 + kDr (kDraw (kL ρ 1 0)) 3 := if_pos hnd
    have hse : kSe ρ = kDraw (kDraw (kL ρ 1 0)) := if_pos hnd
    refine x_iconst hC dX2_chance_46 (q := 47) rfl (v := (1)) (by decide) ?_
    refine x_aloadr_n hC dX2_chance_47 (q := 48) rfl rfl ?_
    refine x_iconst hC dX2_chance_48 (q := 49) rfl (v := (3)) (by decide) ?_
    refine x_callV hC xv_X2_299 dX2_chance_49 (q := 52) rfl rfl (m_X2_drawOf h0 (kT (kLs ρ 1 0 (kDraw (kL ρ 1 0))) f2) gF 3 (by decide)) (nn := (0, 0)) rfl rfl rfl (Nat.le_of_ble_eq_true rfl) ⟨(Nat.le_of_ble_eq_true rfl), (Nat.le_of_ble_eq_true rfl)⟩ ⟨(show 25 + 66 * 0 + 0 + 0 ≤ 91 by omega), (show 340 + 411 * 0 + 0 + 0 ≤ 751 by omega)⟩ (fun v g1 hp => ?_)
    obtain ⟨rfl, hg1⟩ := hp
    replace hg1 := hg1.symm
    subst hg1
    refine x_geq (g' := kmix (kT (kLs ρ 1 0 (kSe ρ)) f2) gF) (by rw [kLs_kT, kLs_kLs, hse]; rfl) ?_
    refine x_steq (st1 := [.int (kDr (kDraw (kL ρ 1 0)) 3), .int 1]) rfl ?_
    refine x_iadd hC dX2_chance_52 (q := 53) rfl ?_
    refine x_goto hC dX2_chance_53 (tgt := 57) rfl ?_
    refine x_steq (st1 := [.int (kGu ρ)]) (by rw [hgu]) ?_
    refine x_istore hC dX2_chance_57 (q := 59) rfl rfl ?_
    refine x_iload hC dX2_chance_59 (q := 61) rfl rfl ?_
    refine x_if_le hC dX2_chance_61 (q := 64) rfl (tgt := 67) rfl (fun h61 => ?_) (fun h61 => ?_)
    · have hx : (0 : Int32) = (if 0 < kGu ρ then 1 else 0) := (if_neg (Int32.not_lt.mpr h61)).symm
      exact hcut _ hx
    have hx : (1 : Int32) = (if 0 < kGu ρ then 1 else 0) := (if_pos (Int32.not_le.mp h61)).symm
    refine x_iinc hC dX2_chance_64 (q := 67) rfl rfl (v := 1) (by decide) ?_
    exact hcut _ hx
  · exact absurd h8 (by decide)
