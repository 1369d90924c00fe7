/-! oneWeek -/
/-- what an act leaves -/
def AR (gF : xG) (α : aA) (d0 : Nat) (σ ρ : KS) : Prop := LSt gF α d0 ρ ∧ kA ρ 0 0 = kA σ 0 0 ∧ (∀ c, c < kA σ 61 0 → ¬ kI σ 34 c = -1 → kI ρ 34 c = kI σ 34 c) ∧ kI σ 3 0 ≤ kI ρ 3 0 ∧ kI ρ 3 0 ≤ kI σ 3 0 + 5 ∧ kV σ 1 0 3 ≤ kV ρ 1 0 3 ∧ kV ρ 1 0 3 ≤ kV σ 1 0 3 + 1 ∧ ∀ j, kO ρ 2 j = kO σ 2 j
theorem AR.bk {gF : xG} {α : aA} {d0 : Nat} {σ σ2 ρ : KS} (h : AR gF α d0 σ2 ρ) (hB : Bk σ σ2) : AR gF α d0 σ ρ := by
  obtain ⟨a1, a2, a3, a4, a5, a6, a7, a8⟩ := h
  obtain ⟨hE, -, -, hV, h0, -⟩ := hB
  refine ⟨a1, a2.trans h0, fun c hc hn => ?_, by rw [← hE.1 3 0 rfl]; exact a4, by rw [← hE.1 3 0 rfl]; exact a5, by rw [← hV]; exact a6, by rw [← hV]; exact a7, fun j => by rw [a8, hE.2.1]⟩
  rw [a3 c (by rw [hE.2.2.2.1]; exact hc) (by rw [hE.1 34 c rfl]; exact hn), hE.1 34 c rfl]
theorem AR.of_bk {gF : xG} {α : aA} {d0 : Nat} {σ σ2 : KS} (h : LSt gF α d0 σ2) (hB : Bk σ σ2) : AR gF α d0 σ σ2 := by
  obtain ⟨hE, -, -, hV, h0, -⟩ := hB
  exact ⟨h, h0, fun c _ _ => hE.1 34 c rfl, by rw [hE.1 3 0 rfl]; exact Int.le_refl _, by rw [hE.1 3 0 rfl]; omega, by rw [hV]; exact Int.le_refl _, by rw [hV]; omega, fun j => by rw [hE.2.1]⟩
/-- one week gone by -/
def W1 (gF : xG) (α : aA) (d0 st : Nat) (σ ρ : KS) : Prop := ∃ σ1 σs, kKp σ σ1 d0 ∧ Bk σ σs ∧ LSt gF α d0 σs ∧ Psd (aFo α) σs (nI st) (aI α 1) ρ ∧ Af σ1 ρ d0 ∧ AR gF α d0 σ ρ
theorem W1.mk {gF : xG} {α : aA} {d0 st : Nat} {σ σ1 σs : KS} {X : KD} {f : aEnv} (hok : aOk α) (hst : st < 4) (hwk : 0 ≤ kI σ 3 0 ∧ kI σ 3 0 ≤ 900) (hL : LSt gF α d0 σ) (hk : kKp σ σ1 d0) (hB : Bk σ σs) (hLs : LSt gF α d0 σs) (hs : ∀ ρ, Af σs ρ d0 → Af σ1 ρ d0) (hX : kXr σs X (kWr (aFo α) (nI st) σs (kA σs 62 0)) d0) : W1 gF α d0 st σ (kT (kTd (kWk (aFo α) (nI st) σs) X) f) := by
  have e3 : kI σs 3 0 = kI σ 3 0 := hB.1.1 3 0 rfl
  have hP := week_P (f := f) hLs hX
  have hA := week_A (f := f) hLs hX
  have hL2 := week_L (f := f) hok hst (by rw [e3]; exact hwk) hLs hX
  refine ⟨σ1, σs, hk, hB, hLs, hP, hs _ hA, (AR.bk ⟨hL2, ?_, fun c hc hn => week_T hLs.1.2.2.1 hLs.2.2.2.2.1 hP.1 hc hn, ?_, ?_, ?_, ?_, fun j => funext fun i => hA.2.2.1 2 j i (by decide) (fun w => absurd w.1 (by decide))⟩ hB)⟩
  · exact hA.1 0 0 (by decide) (by decide) (by decide) (by decide)
  · rw [hP.2.1]; omega
  · rw [hP.2.1]; omega
  · rw [hA.2.2.2.1 1 0 3 (by decide)]; exact Int.le_refl _
  · rw [hA.2.2.2.1 1 0 3 (by decide)]; omega
theorem m_weeks_1 {l : Launch} {s0 : State} {D : va_G} (h0 : x0 l s0 D) (σ : KS) (gF : xG) (f : aEnv) {α : aA} {d0 : Nat} (hok : aOk α) (hL : LSt gF α d0 σ) (hFo : KFo s0 gF d0) (hwk : 0 ≤ kI σ 3 0 ∧ kI σ 3 0 ≤ 900) : xMet l s0 D yX2_weeks cX2_weeks 2 (some .int) (xr 44 91 751 2000) [.ref (kA σ 0 0), .int 1] (kmix (kT σ f) gF) (fun r g1 => ∃ ρ, r = some (.int (nI (wCn (aFo α) σ (aI α 1)))) ∧ kA ρ 63 0 = kA σ 63 0 + wCn (aFo α) σ (aI α 1) ∧ W1 gF α d0 0 σ ρ ∧ g1 = kmix ρ gF) := by
  have hG := hL.1
  refine (m_X2_weeks h0 σ gF f hG hFo 1 (by decide) ⟨hwk.1, by omega⟩ (fun k hk => by
    have e : k = 0 := by omega
    subst e
    exact hG.2.2.2.2.2.2.2.1)).post ?_
  rintro r g1 ⟨f1, σ1, ρ1, rfl, hk, ⟨X, rfl, hX⟩, rfl⟩
  have hL1 := hk.LSt hL
  have e1 : kSm (aFo α) σ 1 = nI (wCn (aFo α) σ (aI α 1)) := by
    rw [kSm_1 hG.2.2.1 hG.2.1.1.1 hG.2.1.1.2.1, hL.2.1.2.1]
  have hX2 : kXr σ1 X (kWr (aFo α) (nI 0) σ1 (kA σ1 62 0)) d0 := hX
  have hW := W1.mk (f := f1) hok (by decide) hwk hL hk hk.Bk hL1 (fun _ a => a) hX2
  have e2 : nI (wCn (aFo α) σ1 (aI α 1)) = nI (wCn (aFo α) σ (aI α 1)) := by
    rw [← e1, ← kSm_E hk.E 1, kSm_1 hL1.1.2.2.1 hL1.1.2.1.1.1 hL1.1.2.1.1.2.1, hL1.2.1.2.1]
  have e3 : wCn (aFo α) σ1 (aI α 1) = wCn (aFo α) σ (aI α 1) := by
    have a := wCn_n3 (F := aFo α) (σ := σ1) (aI α 1)
    have b := wCn_n3 (F := aFo α) (σ := σ) (aI α 1)
    have := hok.2.1
    exact (nI_eq (by omega) (by omega)).mp e2
  refine ⟨_, by rw [e1], ?_, hW, rfl⟩
  rw [(week_P (st := 0) (f := f1) hL1 hX2).2.2.2.2.2.2.2.1, hk.A rfl, e3]
theorem m_passes {l : Launch} {s0 : State} {D : va_G} (h0 : x0 l s0 D) (gF : xG) {σ ρ : KS} {ad aa d0 st : Nat} {α : aA} {I : Nat → Int32} {V : Nat → Nat → Int32} {M : Nat → Nat → Nat → Int32} (hst : st < 4) (hD : DW gF ad I V M) (hA : AH gF aa α) (hok : aOk α) (h140 : gF (140, 0) = none) (hAF : AF α σ I V M) (hW : W1 gF α d0 st σ ρ) : xMet l s0 D yX0_passes cX0_passes 9 (some .boolean) (xr 8 1 3 400) [.ref (kA ρ 0 0), .ref aa, .ref ad, .int (nI st)] (kmix ρ gF) (fun r g1 => r = some (.int 1) ∧ g1 = kmix ρ gF) := by
  obtain ⟨σ1, σs, hk, hB, hLs, hP, -, -⟩ := hW
  have hAs := hAF.bk hB
  obtain ⟨⟨hF, hv, hp, hN, hR, hT, hAc, h7, h4⟩, hl, hLW, hM, hRw, -⟩ := hLs
  exact m_X0_passes h0 σs ρ gF hst hD hA hok hl hLW hv.1 hp hN hM hRw h7 h140 hAs.1 hAs.2 hP
theorem m_undo_W {l : Launch} {s0 : State} {D : va_G} (h0 : x0 l s0 D) (gF : xG) {σ ρ : KS} {d0 st : Nat} {α : aA} (hFo : KFo s0 gF d0) (hL : LSt gF α d0 σ) (hW : W1 gF α d0 st σ ρ) : xMet l s0 D yX2_undo cX2_undo 1 (some .boolean) (xr 14 0 0 500) [.ref (kA ρ 0 0)] (kmix ρ gF) (fun r g1 => ∃ σ2, r = some (.int 1) ∧ g1 = kmix σ2 gF ∧ LSt gF α d0 σ2 ∧ Bk σ σ2 ∧ kL σ2 = kL ρ) := by
  obtain ⟨σ1, σs, hk, hB, hLs, hP, hAf, hAR⟩ := hW
  refine (m_undo h0 ρ gF hL.1 hFo hk hAf).post ?_
  rintro r g1 ⟨σ2, a, b, c, d, e⟩
  obtain ⟨-, -, -, -, -, -, -, -, -, -, -, -, s, h1, h2⟩ := hAR.1
  exact ⟨σ2, a, b, hL.bk d c ⟨s, h1, by rw [e]; exact h2⟩, d, e⟩
theorem m_same_W {l : Launch} {s0 : State} {D : va_G} (h0 : x0 l s0 D) (gF : xG) {σ σ2 : KS} {ad aa d0 : Nat} {α : aA} {I : Nat → Int32} {V : Nat → Nat → Int32} {M : Nat → Nat → Nat → Int32} (hD : DW gF ad I V M) (hA : AH gF aa α) (hok : aOk α) (hAF : AF α σ I V M) (hL2 : LSt gF α d0 σ2) (hB : Bk σ σ2) : xMet l s0 D yX19_isSame cX19_isSame 7 (some .boolean) (xr 8 0 0 240) [.ref ad, .ref (kA σ2 0 0), .ref aa, .int (-1), .int (-1)] (kmix σ2 gF) (fun r g1 => r = some (.int 1) ∧ g1 = kmix σ2 gF) :=
  m_X19_isSame h0 σ2 gF hD hA hok hL2.1.2.1.1 hL2.2.1 ((hAF.bk hB).ds hL2.1.2.2.2.2.2.2.2.1)
theorem wCn_bk {α : aA} {gF : xG} {d0 : Nat} {σ σ2 : KS} (hok : aOk α) (hL : LSt gF α d0 σ) (hL2 : LSt gF α d0 σ2) (hB : Bk σ σ2) : nI (wCn (aFo α) σ2 (aI α 1)) = nI (wCn (aFo α) σ (aI α 1)) := by
  have e1 := kSm_1 (F := aFo α) hL.1.2.2.1 hL.1.2.1.1.1 hL.1.2.1.1.2.1
  have e2 := kSm_1 (F := aFo α) hL2.1.2.2.1 hL2.1.2.1.1.1 hL2.1.2.1.1.2.1
  rw [hL.2.1.2.1] at e1
  rw [hL2.2.1.2.1] at e2
  rw [← e1, ← e2, kSm_E hB.1 1]

theorem DWo {g : xG} {ad : Nat} {I : Nat → Int32} {V : Nat → Nat → Int32} {M : Nat → Nat → Nat → Int32} (h : DW g ad I V M) {σ : KS} : kmix σ g (120, 0) = some (ad, xO 16 (DFs I h.choose)) := (kmix_F _ _ _ rfl).trans h.choose_spec.choose_spec.1

set_option maxHeartbeats 4000000 in
set_option maxRecDepth 100000 in
theorem m_X0_oneWeek {l : Launch} {s0 : State} {D : va_G} (h0 : x0 l s0 D) (σ : KS) (gF : xG) (f : aEnv) {ad aa d0 : Nat} {α : aA} {I : Nat → Int32} {V : Nat → Nat → Int32} {M : Nat → Nat → Nat → Int32} (hD : DW gF ad I V M) (hA : AH gF aa α) (hok : aOk α) (hL : LSt gF α d0 σ) (hFo : KFo s0 gF d0) (hAF : AF α σ I V M) (h140 : gF (140, 0) = none) (hwk : 0 ≤ kI σ 3 0 ∧ kI σ 3 0 ≤ 900)  : xMet l s0 D yX0_oneWeek cX0_oneWeek 4 (some .boolean) (xr 46 200 1600 2100) [.ref (kA σ 0 0), .ref aa, .ref ad] (kmix (kT σ f) gF) (fun r g1 => ∃ ρ, r = some (.int 1) ∧ AR gF α d0 σ ρ ∧ g1 = kmix ρ gF) := by
  refine xMet.of h0 (by decide +kernel) rfl ?_
  intro zp ze zs zm za zb zf zc hC hr hnm
  refine x_aloadr_n hC dX0_oneWeek_0 (q := 1) rfl rfl ?_
  refine x_iconst hC dX0_oneWeek_1 (q := 2) rfl (v := (1)) (by decide) ?_
  refine x_callV hC xv_X0_237 dX0_oneWeek_2 (q := 5) rfl rfl (m_weeks_1 h0 σ gF f hok hL hFo hwk) (nn := (0, 0)) rfl rfl rfl (Nat.le_of_ble_eq_true rfl) ⟨(by (try dsimp only); omega), (by (try dsimp only); omega)⟩ ⟨(by (try dsimp only); omega), (by (try dsimp only); omega)⟩ (fun v g1 hp => ?_)
  obtain ⟨ρ, rfl, h63, hW, hg1⟩ := hp
  subst hg1
  obtain ⟨-, -, -, -, -, -, -, hAR⟩ := id hW
  rw [show kA σ 0 0 = kA ρ 0 0 from hAR.2.1.symm]
  have hwc := wCn_n3 (F := aFo α) (σ := σ) (aI α 1)
  have hb1 := hok.2.1
  refine x_istore_n hC dX0_oneWeek_5 (q := 6) rfl rfl ?_
  refine x_iload_n hC dX0_oneWeek_6 (q := 7) rfl rfl ?_
  refine x_if_lt hC dX0_oneWeek_7 (q := 10) rfl (tgt := 35) rfl (fun h7 => ?_) (fun h7 => ?_)
  · exact absurd (nI_le (a := 0) (b := wCn (aFo α) σ (aI α 1)) (Nat.zero_le _) (by omega)) (Int32.not_le.mpr h7)
  refine x_iload_n hC dX0_oneWeek_10 (q := 11) rfl rfl ?_
  refine x_aloadr_n hC dX0_oneWeek_11 (q := 12) rfl rfl ?_
  refine x_bipush hC dX0_oneWeek_12 (q := 14) rfl (v := (8)) (by decide) ?_
  refine x_callV hC xv_X0_73 dX0_oneWeek_14 (q := 17) rfl rfl (m_X2_has_8 h0 ρ gF) (nn := (0, 0)) rfl rfl rfl (Nat.le_of_ble_eq_true rfl) ⟨(by (try dsimp only); omega), (by (try dsimp only); omega)⟩ ⟨(by (try dsimp only); omega), (by (try dsimp only); omega)⟩ (fun v g1 hp => ?_)
  rw [h63] at hp
  obtain ⟨rfl, hg1⟩ := hp
  replace hg1 := hg1.symm
  subst hg1
  refine x_aloadr_n hC dX0_oneWeek_17 (q := 18) rfl rfl ?_
  refine x_get hC xf_X0_199_16 dX0_oneWeek_18 (q := 21) rfl (n := (120, 0)) (DWo hD) rfl ?_
  rw [hAF.1.2.1]
  refine x_isub hC dX0_oneWeek_21 (q := 22) rfl ?_
  refine x_icmp_ne hC dX0_oneWeek_22 (q := 25) rfl (tgt := 35) rfl (fun h22 => ?_) (fun h22 => ?_)
  · exact absurd (by rw [← nI_add, Int32.add_comm, Int32.add_sub_cancel]) h22
  refine x_aloadr_n hC dX0_oneWeek_25 (q := 26) rfl rfl ?_
  refine x_aloadr_n hC dX0_oneWeek_26 (q := 27) rfl rfl ?_
  refine x_aloadr_n hC dX0_oneWeek_27 (q := 28) rfl rfl ?_
  refine x_iconst hC dX0_oneWeek_28 (q := 29) rfl (v := (0)) (by decide) ?_
  refine x_callS hC xv_X0_240 dX0_oneWeek_29 (q := 32) rfl rfl (m_passes h0 gF (st := 0) (by decide) hD hA hok h140 hAF hW) rfl (Nat.le_of_ble_eq_true rfl) ⟨(by (try dsimp only); omega), (by (try dsimp only); omega)⟩ ⟨(by (try dsimp only); omega), (by (try dsimp only); omega)⟩ (fun v g1 hp => ?_)
  obtain ⟨rfl, hg1⟩ := hp
  replace hg1 := hg1.symm
  subst hg1
  refine x_if_ne hC dX0_oneWeek_32 (q := 35) rfl (tgt := 37) rfl (fun h32 => ?_) (fun h32 => ?_)
  · have hx32 := h32
    refine x_aloadr_n hC dX0_oneWeek_37 (q := 38) rfl rfl ?_
    refine x_callV hC xv_X0_244 dX0_oneWeek_38 (q := 41) rfl rfl (m_undo_W h0 gF hFo hL hW) (nn := (0, 0)) rfl rfl rfl (Nat.le_of_ble_eq_true rfl) ⟨(by (try dsimp only); omega), (by (try dsimp only); omega)⟩ ⟨(by (try dsimp only); omega), (by (try dsimp only); omega)⟩ (fun v g1 hp => ?_)
    obtain ⟨σ2, rfl, hg1, hL2, hB2, -⟩ := hp
    subst hg1
    rw [show kA ρ 0 0 = kA σ2 0 0 from hAR.2.1.trans hB2.2.2.2.2.1.symm]
    refine x_if_eq hC dX0_oneWeek_41 (q := 44) rfl (tgt := 78) rfl (fun h41 => ?_) (fun h41 => ?_)
    · exact absurd h41 (by decide)
    refine x_aloadr_n hC dX0_oneWeek_44 (q := 45) rfl rfl ?_
    refine x_aloadr_n hC dX0_oneWeek_45 (q := 46) rfl rfl ?_
    refine x_aloadr_n hC dX0_oneWeek_46 (q := 47) rfl rfl ?_
    refine x_iconst hC dX0_oneWeek_47 (q := 48) rfl (v := (-1)) (by decide) ?_
    refine x_iconst hC dX0_oneWeek_48 (q := 49) rfl (v := (-1)) (by decide) ?_
    refine x_callV hC xv_X0_191 dX0_oneWeek_49 (q := 52) rfl rfl (m_same_W h0 gF hD hA hok hAF hL2 hB2) (nn := (120, 0)) (DWo hD) rfl rfl (Nat.le_of_ble_eq_true rfl) ⟨(by (try dsimp only); omega), (by (try dsimp only); omega)⟩ ⟨(by (try dsimp only); omega), (by (try dsimp only); omega)⟩ (fun v g1 hp => ?_)
    obtain ⟨rfl, hg1⟩ := hp
    replace hg1 := hg1.symm
    subst hg1
    refine x_if_eq hC dX0_oneWeek_52 (q := 55) rfl (tgt := 78) rfl (fun h52 => ?_) (fun h52 => ?_)
    · exact absurd h52 (by decide)
    refine x_geq (g' := kmix (kT σ2 (kL σ2 0)) gF) (by rw [kT_self]) ?_
    refine x_aloadr_n hC dX0_oneWeek_55 (q := 56) rfl rfl ?_
    refine x_iconst hC dX0_oneWeek_56 (q := 57) rfl (v := (1)) (by decide) ?_
    refine x_callV hC xv_X0_237 dX0_oneWeek_57 (q := 60) rfl rfl (m_weeks_1 h0 σ2 gF (kL σ2 0) hok hL2 hFo (by rw [hB2.1.1 3 0 rfl]; exact hwk)) (nn := (0, 0)) rfl rfl rfl (Nat.le_of_ble_eq_true rfl) ⟨(by (try dsimp only); omega), (by (try dsimp only); omega)⟩ ⟨(by (try dsimp only); omega), (by (try dsimp only); omega)⟩ (fun v g1 hp => ?_)
    obtain ⟨ρ2, rfl, h632, hW2, hg1⟩ := hp
    subst hg1
    obtain ⟨-, -, -, -, -, -, -, hAR2⟩ := id hW2
    rw [show kA σ2 0 0 = kA ρ2 0 0 from hAR2.2.1.symm, wCn_bk hok hL hL2 hB2]
    refine x_iload_n hC dX0_oneWeek_60 (q := 61) rfl rfl ?_
    refine x_icmp_ne hC dX0_oneWeek_61 (q := 64) rfl (tgt := 78) rfl (fun h61 => ?_) (fun h61 => ?_)
    · exact absurd rfl h61
    refine x_aloadr_n hC dX0_oneWeek_64 (q := 65) rfl rfl ?_
    refine x_aloadr_n hC dX0_oneWeek_65 (q := 66) rfl rfl ?_
    refine x_aloadr_n hC dX0_oneWeek_66 (q := 67) rfl rfl ?_
    refine x_iconst hC dX0_oneWeek_67 (q := 68) rfl (v := (0)) (by decide) ?_
    refine x_callS hC xv_X0_240 dX0_oneWeek_68 (q := 71) rfl rfl (m_passes h0 gF (st := 0) (by decide) hD hA hok h140 (hAF.bk hB2) hW2) rfl (Nat.le_of_ble_eq_true rfl) ⟨(by (try dsimp only); omega), (by (try dsimp only); omega)⟩ ⟨(by (try dsimp only); omega), (by (try dsimp only); omega)⟩ (fun v g1 hp => ?_)
    obtain ⟨rfl, hg1⟩ := hp
    replace hg1 := hg1.symm
    subst hg1
    refine x_if_eq hC dX0_oneWeek_71 (q := 74) rfl (tgt := 78) rfl (fun h71 => ?_) (fun h71 => ?_)
    · exact absurd h71 (by decide)
    refine x_iconst hC dX0_oneWeek_74 (q := 75) rfl (v := (1)) (by decide) ?_
    refine x_goto hC dX0_oneWeek_75 (tgt := 79) rfl ?_
    exact x_zret hC hr rfl dX0_oneWeek_79 (by (try dsimp only); omega) (by (try dsimp only); omega) ⟨ρ2, rfl, hAR2.bk hB2, rfl⟩
  · exact absurd h32 (by decide)
