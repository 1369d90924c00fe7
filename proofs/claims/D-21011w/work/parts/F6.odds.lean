/-! areOdds -/
theorem kOdd_sum {F : Nat → Option (aEnv → Int64)} {σ : KS} {c : Nat} {m : Nat → Int32} {w : Int32} (hm : ∀ j, j < 4 → m j = (if iI (kI (kWk F (nI j) σ) 36 c) = 0 then 0 else 1)) (hw : iI (kI σ 9 0) = w) : kOdd F σ c 4 = 3 * (100 - w) * m 0 + w * (m 1 + m 2 + m 3) := by
  have h0 := hm 0 (by decide)
  have h1 := hm 1 (by decide)
  have h2 := hm 2 (by decide)
  have h3 := hm 3 (by decide)
  rw [h0, h1, h2, h3]
  unfold kOdd kOdd kOdd kOdd kOdd
  rw [hw]
  have e : (100 - w) * 3 = 3 * (100 - w) := Int32.mul_comm _ _
  rw [if_pos rfl, if_neg (show ¬ (0 + 1 = 0) by decide), if_neg (show ¬ (0 + 1 + 1 = 0) by decide), if_neg (show ¬ (0 + 1 + 1 + 1 = 0) by decide), e]
  have g1 : (nI (0 + 1)) = nI 1 := rfl
  have g2 : (nI (0 + 1 + 1)) = nI 2 := rfl
  have g3 : (nI (0 + 1 + 1 + 1)) = nI 3 := rfl
  rw [g1, g2, g3]
  generalize 3 * (100 - w) = z
  have hz0 : ∀ x : Int32, x * 0 = 0 := fun x => Int32.mul_zero
  have hz1 : ∀ x : Int32, x * 1 = x := fun x => Int32.mul_one x
  have ha : ∀ x : Int32, 0 + x = x := fun x => Int32.zero_add x
  have hb : ∀ x : Int32, x + 0 = x := fun x => Int32.add_zero x
  have h2' : w * (1 + 1) = w + w := by rw [Int32.mul_add, hz1]
  have h3' : w * (1 + 1 + 1) = w + w + w := by rw [Int32.mul_add, Int32.mul_add, hz1]
  by_cases q0 : iI (kI (kWk F (nI 0) σ) 36 c) = 0 <;> by_cases q1 : iI (kI (kWk F (nI 1) σ) 36 c) = 0 <;> by_cases q2 : iI (kI (kWk F (nI 2) σ) 36 c) = 0 <;> by_cases q3 : iI (kI (kWk F (nI 3) σ) 36 c) = 0 <;> simp only [q0, q1, q2, q3, if_true, if_false, hz0, hz1, ha, hb, h2', h3', ← Int32.add_assoc]
theorem kOdd_0 {F : Nat → Option (aEnv → Int64)} {σ : KS} {c : Nat} (hm : ∀ j, j < 4 → iI (kI (kWk F (nI j) σ) 36 c) = 0) : kOdd F σ c 4 = 0 := by
  unfold kOdd kOdd kOdd kOdd kOdd
  rw [if_pos (hm 3 (by decide)), if_pos (hm 2 (by decide)), if_pos (hm 1 (by decide)), if_pos (hm 0 (by decide))]
theorem kWk36 {F : Nat → Option (aEnv → Int64)} {σ : KS} {gu : Int32} (c : Nat) : kI (kWk F gu σ) 36 c = kI (kWkN F gu σ (kA σ 62 0)) 36 c := by
  show kI (kIs (kWkN F gu σ (kA σ 62 0)) 3 0 _) 36 c = _
  rw [kI_kIs, if_neg (fun w => absurd w.1 (by decide))]

set_option maxHeartbeats 4000000 in
set_option maxRecDepth 100000 in
theorem m_areOdds_n {l : Launch} {s0 : State} {D : va_G} (h0 : x0 l s0 D) (σ : KS) (gF : xG) (f : aEnv) {ad aa d0 : Nat} {α : aA} {I : Nat → Int32} {V : Nat → Nat → Int32} {M : Nat → Nat → Nat → Int32} (hD : DW gF ad I V M) (hA : AH gF aa α) (hok : aOk α) (hL : LSt gF α d0 σ) (hFo : KFo s0 gF d0) (hAF : AF α σ I V M) (hwk : 0 ≤ kI σ 3 0 ∧ kI σ 3 0 ≤ 900) {c : Nat} (hc : c < aI α 0) (hno : kO σ 0 c 0 = none) : xMet l s0 D yX0_areOdds cX0_areOdds 6 (some .boolean) (xr 43 270 1700 2050) [.ref (kA σ 0 0), .ref aa, .ref ad, .int (nI c)] (kmix (kT σ f) gF) (fun r g1 => ∃ f1 y, r = some (.int 1) ∧ g1 = kmix (kT (kIs σ 5 0 y) f1) gF) := by
  obtain ⟨ra, rr, hd0, hd3, hd6, hdb, hdr, hdc, hdk, hdx, hdy⟩ := hD.km (kT σ f)
  obtain ⟨ca, ga, rm, hat, hac, hag, har⟩ := hA.km (kT σ f)
  obtain ⟨⟨hF, hv, hpP, hN, hR, hT, hAc, h7, h4⟩, hl, hLW, hM, hRw, hrow, hfu, hck, -⟩ := id hL
  have hAI := hAF.2
  have hw := hv.1
  have hb0 := hok.1
  have hb1 := hok.2.1
  have hb8 := hok.2.2.2.2.2.2.2.2.1
  have hc2 : c < kA σ 61 0 := by rw [hl.1]; exact hc
  have hDC := (hAI.2.2 c hc).1.1
  refine xMet.of h0 (by decide +kernel) rfl ?_
  intro zp ze zs zm za zb zf zc hC hr hnm
  refine x_aloadr_n hC dX0_areOdds_0 (q := 1) rfl rfl ?_
  refine x_get hC xf_X0_120_16 dX0_areOdds_1 (q := 4) rfl (n := (120, 0)) hd0 rfl ?_
  refine x_iload_n hC dX0_areOdds_4 (q := 5) rfl rfl ?_
  refine x_iald hC dX0_areOdds_5 (q := 6) rfl (n := (126, 0)) (hd6 10 (by decide) (by decide)) (j := c) rfl (by omega) (by decide) ?_
  rw [hDC.1, show kKil σ c = -1 from by unfold kKil; rw [hno]]
  refine x_istore hC dX0_areOdds_6 (q := 8) rfl rfl ?_
  refine x_iload hC dX0_areOdds_8 (q := 10) rfl rfl ?_
  refine x_if_lt hC dX0_areOdds_10 (q := 13) rfl (tgt := 23) rfl (fun h10 => ?_) (fun h10 => ?_)
  · have hx10 := h10
    refine x_aloadr_n hC dX0_areOdds_23 (q := 24) rfl rfl ?_
    refine x_iload_n hC dX0_areOdds_24 (q := 25) rfl rfl ?_
    refine x_callV hC xv_X0_151 dX0_areOdds_25 (q := 28) rfl rfl (m_X2_odds_n h0 σ gF f hw c hc2 hno) (nn := (0, 0)) rfl rfl rfl (Nat.le_of_ble_eq_true rfl) ⟨(by (try dsimp only); omega), (by (try dsimp only); omega)⟩ ⟨(by (try dsimp only); omega), (by (try dsimp only); omega)⟩ (fun v g1 hp => ?_)
    obtain ⟨rfl, hg1⟩ := hp
    replace hg1 := hg1.symm
    subst hg1
    refine x_iconst hC dX0_areOdds_28 (q := 29) rfl (v := (-1)) (by decide) ?_
    refine x_icmp_ne hC dX0_areOdds_29 (q := 32) rfl (tgt := 36) rfl (fun h29 => ?_) (fun h29 => ?_)
    · exact absurd rfl h29
    refine x_iconst hC dX0_areOdds_32 (q := 33) rfl (v := (1)) (by decide) ?_
    refine x_goto hC dX0_areOdds_33 (tgt := 37) rfl ?_
    exact x_zret hC hr rfl dX0_areOdds_37 (by (try dsimp only); omega) (by (try dsimp only); omega) ⟨f, kI σ 5 0, rfl, by rw [kIs_self rfl]⟩
  · exact absurd (by decide) h10

set_option maxHeartbeats 4000000 in
set_option maxRecDepth 100000 in
theorem m_areOdds_u {l : Launch} {s0 : State} {D : va_G} (h0 : x0 l s0 D) (σ : KS) (gF : xG) (f : aEnv) {ad aa d0 : Nat} {α : aA} {I : Nat → Int32} {V : Nat → Nat → Int32} {M : Nat → Nat → Nat → Int32} (hD : DW gF ad I V M) (hA : AH gF aa α) (hok : aOk α) (hL : LSt gF α d0 σ) (hFo : KFo s0 gF d0) (hAF : AF α σ I V M) (hwk : 0 ≤ kI σ 3 0 ∧ kI σ 3 0 ≤ 900) {c : Nat} (hc : c < aI α 0) {q : Nat} (hkc : kO σ 0 c 0 = some q) (hun : iI (kI σ 41 q) = -1) : xMet l s0 D yX0_areOdds cX0_areOdds 6 (some .boolean) (xr 43 270 1700 2050) [.ref (kA σ 0 0), .ref aa, .ref ad, .int (nI c)] (kmix (kT σ f) gF) (fun r g1 => ∃ f1 y, r = some (.int 1) ∧ g1 = kmix (kT (kIs σ 5 0 y) f1) gF) := by
  obtain ⟨ra, rr, hd0, hd3, hd6, hdb, hdr, hdc, hdk, hdx, hdy⟩ := hD.km (kT σ f)
  obtain ⟨ca, ga, rm, hat, hac, hag, har⟩ := hA.km (kT σ f)
  obtain ⟨⟨hF, hv, hpP, hN, hR, hT, hAc, h7, h4⟩, hl, hLW, hM, hRw, hrow, hfu, hck, -⟩ := id hL
  have hAI := hAF.2
  have hw := hv.1
  have hb0 := hok.1
  have hb1 := hok.2.1
  have hb8 := hok.2.2.2.2.2.2.2.2.1
  have hc2 : c < kA σ 61 0 := by rw [hl.1]; exact hc
  have hDC := (hAI.2.2 c hc).1.1
  have hkk : kKil σ c = nI q := by unfold kKil; rw [hkc]
  obtain ⟨hq2, p, hpr, hp33⟩ := hpP.2.1 c q hc2 hkc
  have hq : q < aI α 1 := by rw [← hl.2.1]; exact hq2
  have hpl : kO σ 1 q p = some c := (hpP.1 q p c).mpr ⟨hc2, hkc, hp33⟩
  obtain ⟨v5, v6, v7, v8, v9⟩ := hAI.2.1 q hq
  have h41 := hN.2 q hq2
  refine xMet.of h0 (by decide +kernel) rfl ?_
  intro zp ze zs zm za zb zf zc hC hr hnm
  refine x_aloadr_n hC dX0_areOdds_0 (q := 1) rfl rfl ?_
  refine x_get hC xf_X0_120_16 dX0_areOdds_1 (q := 4) rfl (n := (120, 0)) hd0 rfl ?_
  refine x_iload_n hC dX0_areOdds_4 (q := 5) rfl rfl ?_
  refine x_iald hC dX0_areOdds_5 (q := 6) rfl (n := (126, 0)) (hd6 10 (by decide) (by decide)) (j := c) rfl (by omega) (by decide) ?_
  rw [hDC.1, hkk]
  refine x_istore hC dX0_areOdds_6 (q := 8) rfl rfl ?_
  refine x_iload hC dX0_areOdds_8 (q := 10) rfl rfl ?_
  refine x_if_lt hC dX0_areOdds_10 (q := 13) rfl (tgt := 23) rfl (fun h10 => ?_) (fun h10 => ?_)
  · exact absurd (nI_le (a := 0) (b := q) (Nat.zero_le _) (by omega)) (Int32.not_le.mpr h10)
  have hx10 := h10
  refine x_aloadr_n hC dX0_areOdds_13 (q := 14) rfl rfl ?_
  refine x_get hC xf_X0_149_16 dX0_areOdds_14 (q := 17) rfl (n := (120, 0)) hd0 rfl ?_
  refine x_iload hC dX0_areOdds_17 (q := 19) rfl rfl ?_
  refine x_iald hC dX0_areOdds_19 (q := 20) rfl (n := (123, 0)) (hd3 7 (by decide) (by decide)) (j := q) rfl (by omega) (by decide) ?_
  rw [v7, hun]
  refine x_if_ge hC dX0_areOdds_20 (q := 23) rfl (tgt := 38) rfl (fun h20 => ?_) (fun h20 => ?_)
  · exact absurd h20 (by decide)
  have hx20 := h20
  refine x_aloadr_n hC dX0_areOdds_23 (q := 24) rfl rfl ?_
  refine x_iload_n hC dX0_areOdds_24 (q := 25) rfl rfl ?_
  refine x_callV hC xv_X0_151 dX0_areOdds_25 (q := 28) rfl rfl (m_X2_odds_u h0 σ gF f hw c hc2 hq2 hkc hun) (nn := (0, 0)) rfl rfl rfl (Nat.le_of_ble_eq_true rfl) ⟨(by (try dsimp only); omega), (by (try dsimp only); omega)⟩ ⟨(by (try dsimp only); omega), (by (try dsimp only); omega)⟩ (fun v g1 hp => ?_)
  obtain ⟨rfl, hg1⟩ := hp
  replace hg1 := hg1.symm
  subst hg1
  refine x_iconst hC dX0_areOdds_28 (q := 29) rfl (v := (-1)) (by decide) ?_
  refine x_icmp_ne hC dX0_areOdds_29 (q := 32) rfl (tgt := 36) rfl (fun h29 => ?_) (fun h29 => ?_)
  · exact absurd rfl h29
  refine x_iconst hC dX0_areOdds_32 (q := 33) rfl (v := (1)) (by decide) ?_
  refine x_goto hC dX0_areOdds_33 (tgt := 37) rfl ?_
  exact x_zret hC hr rfl dX0_areOdds_37 (by (try dsimp only); omega) (by (try dsimp only); omega) ⟨f, kI σ 5 0, rfl, by rw [kIs_self rfl]⟩

set_option maxHeartbeats 4000000 in
set_option maxRecDepth 100000 in
theorem m_areOdds_s {l : Launch} {s0 : State} {D : va_G} (h0 : x0 l s0 D) (σ : KS) (gF : xG) (f : aEnv) {ad aa d0 : Nat} {α : aA} {I : Nat → Int32} {V : Nat → Nat → Int32} {M : Nat → Nat → Nat → Int32} (hD : DW gF ad I V M) (hA : AH gF aa α) (hok : aOk α) (hL : LSt gF α d0 σ) (hFo : KFo s0 gF d0) (hAF : AF α σ I V M) (hwk : 0 ≤ kI σ 3 0 ∧ kI σ 3 0 ≤ 900) {c : Nat} (hc : c < aI α 0) {q : Nat} (hkc : kO σ 0 c 0 = some q) (hlit : ¬ iI (kI σ 41 q) = -1) : xMet l s0 D yX0_areOdds cX0_areOdds 6 (some .boolean) (xr 43 270 1700 2050) [.ref (kA σ 0 0), .ref aa, .ref ad, .int (nI c)] (kmix (kT σ f) gF) (fun r g1 => ∃ f1 y, r = some (.int 1) ∧ g1 = kmix (kT (kIs σ 5 0 y) f1) gF) := by
  obtain ⟨ra, rr, hd0, hd3, hd6, hdb, hdr, hdc, hdk, hdx, hdy⟩ := hD.km (kT σ f)
  obtain ⟨ca, ga, rm, hat, hac, hag, har⟩ := hA.km (kT σ f)
  obtain ⟨⟨hF, hv, hpP, hN, hR, hT, hAc, h7, h4⟩, hl, hLW, hM, hRw, hrow, hfu, hck, -⟩ := id hL
  have hAI := hAF.2
  have hw := hv.1
  have hb0 := hok.1
  have hb1 := hok.2.1
  have hb8 := hok.2.2.2.2.2.2.2.2.1
  have hc2 : c < kA σ 61 0 := by rw [hl.1]; exact hc
  have hDC := (hAI.2.2 c hc).1.1
  have hkk : kKil σ c = nI q := by unfold kKil; rw [hkc]
  obtain ⟨hq2, p, hpr, hp33⟩ := hpP.2.1 c q hc2 hkc
  have hq : q < aI α 1 := by rw [← hl.2.1]; exact hq2
  have hpl : kO σ 1 q p = some c := (hpP.1 q p c).mpr ⟨hc2, hkc, hp33⟩
  obtain ⟨v5, v6, v7, v8, v9⟩ := hAI.2.1 q hq
  have h41 := hN.2 q hq2
  have hne : ¬ kI σ 41 q = -1 := fun e => hlit (by rw [e]; rfl)
  have hWj : ∀ j, WkR (aFo α) σ (nI j) (kA σ 62 0) (kWkN (aFo α) (nI j) σ (kA σ 62 0)) := fun j => wkN (F := aFo α) (gu := nI j) hpP hw.1 hw.2.1 (kA σ 62 0) (Nat.le_refl _)
  have hyes : wF (aFo α) σ q → kOdd (aFo α) σ c 4 = 3 * (100 - nI (aI α 8)) * M 17 c 0 + nI (aI α 8) * (M 17 c 1 + M 17 c 2 + M 17 c 3) := fun hf => by
    refine kOdd_sum (m := M 17 c) (fun j hj => ?_) (by rw [hLW.2, iI_nat])
    rw [kWk36, ((hWj j).2.2.2.2.2.1 q p c hq2 hf hpl).2, toI]
    have hm := ((hAI.2.2 c hc).2 q hkc (by omega) j hj).2
    rw [← kHt_st ⟨h41.1, h41.2⟩ hj, hp33, iI_nat] at hm
    exact hm
  have hnot : ¬ wF (aFo α) σ q → kOdd (aFo α) σ c 4 = 0 := fun hf => by
    refine kOdd_0 (fun j hj => ?_)
    rw [kWk36, ((hWj j).2.2.2.2.1 c (fun ⟨q2, p2, a, b, e⟩ => by
      have e1 := ((hpP.1 q2 p2 c).mp e).2.1
      rw [hkc] at e1; cases e1
      exact hf b)).2.2.2, hck c hc2 (hRw c q hc2 hkc)]
    rfl
  have hcom : V 9 q = 0 ↔ wF (aFo α) σ q := (kFnd_0 v9).trans (wF_0 hpP hw.1 hw.2.1 hq2)
  refine xMet.of h0 (by decide +kernel) rfl ?_
  intro zp ze zs zm za zb zf zc hC hr hnm
  refine x_aloadr_n hC dX0_areOdds_0 (q := 1) rfl rfl ?_
  refine x_get hC xf_X0_120_16 dX0_areOdds_1 (q := 4) rfl (n := (120, 0)) hd0 rfl ?_
  refine x_iload_n hC dX0_areOdds_4 (q := 5) rfl rfl ?_
  refine x_iald hC dX0_areOdds_5 (q := 6) rfl (n := (126, 0)) (hd6 10 (by decide) (by decide)) (j := c) rfl (by omega) (by decide) ?_
  rw [hDC.1, hkk]
  refine x_istore hC dX0_areOdds_6 (q := 8) rfl rfl ?_
  refine x_iload hC dX0_areOdds_8 (q := 10) rfl rfl ?_
  refine x_if_lt hC dX0_areOdds_10 (q := 13) rfl (tgt := 23) rfl (fun h10 => ?_) (fun h10 => ?_)
  · exact absurd (nI_le (a := 0) (b := q) (Nat.zero_le _) (by omega)) (Int32.not_le.mpr h10)
  have hx10 := h10
  refine x_aloadr_n hC dX0_areOdds_13 (q := 14) rfl rfl ?_
  refine x_get hC xf_X0_149_16 dX0_areOdds_14 (q := 17) rfl (n := (120, 0)) hd0 rfl ?_
  refine x_iload hC dX0_areOdds_17 (q := 19) rfl rfl ?_
  refine x_iald hC dX0_areOdds_19 (q := 20) rfl (n := (123, 0)) (hd3 7 (by decide) (by decide)) (j := q) rfl (by omega) (by decide) ?_
  rw [v7]
  refine x_if_ge hC dX0_areOdds_20 (q := 23) rfl (tgt := 38) rfl (fun h20 => ?_) (fun h20 => ?_)
  · have hx20 := h20
    refine x_iconst hC dX0_areOdds_38 (q := 39) rfl (v := (3)) (by decide) ?_
    refine x_bipush hC dX0_areOdds_39 (q := 41) rfl (v := (100)) (by decide) ?_
    refine x_aloadr_n hC dX0_areOdds_41 (q := 42) rfl rfl ?_
    refine x_get hC xf_X0_154_0 dX0_areOdds_42 (q := 45) rfl (n := (101, 0)) hat rfl ?_
    refine x_isub hC dX0_areOdds_45 (q := 46) rfl ?_
    refine x_imul hC dX0_areOdds_46 (q := 47) rfl ?_
    refine x_aloadr_n hC dX0_areOdds_47 (q := 48) rfl rfl ?_
    refine x_get hC xf_X0_157_16 dX0_areOdds_48 (q := 51) rfl (n := (120, 0)) hd0 rfl ?_
    refine x_iload_n hC dX0_areOdds_51 (q := 52) rfl rfl ?_
    refine x_aald hC dX0_areOdds_52 (q := 53) rfl (n := (134, 0)) hdc (j := c) rfl (by omega) (by decide) rfl ?_
    refine x_iconst hC dX0_areOdds_53 (q := 54) rfl (v := (0)) (by decide) ?_
    refine x_iald hC dX0_areOdds_54 (q := 55) rfl (n := (135, c)) (hdx c (by omega)).2 (j := 0) rfl (by decide) (by decide) ?_
    refine x_imul hC dX0_areOdds_55 (q := 56) rfl ?_
    refine x_aloadr_n hC dX0_areOdds_56 (q := 57) rfl rfl ?_
    refine x_get hC xf_X0_154_0 dX0_areOdds_57 (q := 60) rfl (n := (101, 0)) hat rfl ?_
    refine x_aloadr_n hC dX0_areOdds_60 (q := 61) rfl rfl ?_
    refine x_get hC xf_X0_157_16 dX0_areOdds_61 (q := 64) rfl (n := (120, 0)) hd0 rfl ?_
    refine x_iload_n hC dX0_areOdds_64 (q := 65) rfl rfl ?_
    refine x_aald hC dX0_areOdds_65 (q := 66) rfl (n := (134, 0)) hdc (j := c) rfl (by omega) (by decide) rfl ?_
    refine x_iconst hC dX0_areOdds_66 (q := 67) rfl (v := (1)) (by decide) ?_
    refine x_iald hC dX0_areOdds_67 (q := 68) rfl (n := (135, c)) (hdx c (by omega)).2 (j := 1) rfl (by decide) (by decide) ?_
    refine x_aloadr_n hC dX0_areOdds_68 (q := 69) rfl rfl ?_
    refine x_get hC xf_X0_157_16 dX0_areOdds_69 (q := 72) rfl (n := (120, 0)) hd0 rfl ?_
    refine x_iload_n hC dX0_areOdds_72 (q := 73) rfl rfl ?_
    refine x_aald hC dX0_areOdds_73 (q := 74) rfl (n := (134, 0)) hdc (j := c) rfl (by omega) (by decide) rfl ?_
    refine x_iconst hC dX0_areOdds_74 (q := 75) rfl (v := (2)) (by decide) ?_
    refine x_iald hC dX0_areOdds_75 (q := 76) rfl (n := (135, c)) (hdx c (by omega)).2 (j := 2) rfl (by decide) (by decide) ?_
    refine x_iadd hC dX0_areOdds_76 (q := 77) rfl ?_
    refine x_aloadr_n hC dX0_areOdds_77 (q := 78) rfl rfl ?_
    refine x_get hC xf_X0_157_16 dX0_areOdds_78 (q := 81) rfl (n := (120, 0)) hd0 rfl ?_
    refine x_iload_n hC dX0_areOdds_81 (q := 82) rfl rfl ?_
    refine x_aald hC dX0_areOdds_82 (q := 83) rfl (n := (134, 0)) hdc (j := c) rfl (by omega) (by decide) rfl ?_
    refine x_iconst hC dX0_areOdds_83 (q := 84) rfl (v := (3)) (by decide) ?_
    refine x_iald hC dX0_areOdds_84 (q := 85) rfl (n := (135, c)) (hdx c (by omega)).2 (j := 3) rfl (by decide) (by decide) ?_
    refine x_iadd hC dX0_areOdds_85 (q := 86) rfl ?_
    refine x_imul hC dX0_areOdds_86 (q := 87) rfl ?_
    refine x_iadd hC dX0_areOdds_87 (q := 88) rfl ?_
    refine x_istore hC dX0_areOdds_88 (q := 90) rfl rfl ?_
    refine x_aloadr_n hC dX0_areOdds_90 (q := 91) rfl rfl ?_
    refine x_iload_n hC dX0_areOdds_91 (q := 92) rfl rfl ?_
    refine x_callV hC xv_X0_151 dX0_areOdds_92 (q := 95) rfl rfl (m_X2_odds_s h0 σ gF f hL.1 hFo hwk c hc2 hq2 hkc hlit) (nn := (0, 0)) rfl rfl rfl (Nat.le_of_ble_eq_true rfl) ⟨(by (try dsimp only); omega), (by (try dsimp only); omega)⟩ ⟨(by (try dsimp only); omega), (by (try dsimp only); omega)⟩ (fun v g1 hp => ?_)
    obtain ⟨f1, y, rfl, hg1⟩ := hp
    subst hg1
    refine x_aloadr_n hC dX0_areOdds_95 (q := 96) rfl rfl ?_
    refine x_get hC xf_X0_160_16 dX0_areOdds_96 (q := 99) rfl (n := (120, 0)) ((kmix_F _ _ _ rfl).trans ((kmix_F (kT σ f) gF _ rfl).symm.trans hd0)) rfl ?_
    refine x_iload hC dX0_areOdds_99 (q := 101) rfl rfl ?_
    refine x_iald hC dX0_areOdds_101 (q := 102) rfl (n := (125, 0)) ((kmix_F _ _ _ rfl).trans ((kmix_F (kT σ f) gF _ rfl).symm.trans (hd3 9 (by decide) (by decide)))) (j := q) rfl (by omega) (by decide) ?_
    refine x_if_ne hC dX0_areOdds_102 (q := 105) rfl (tgt := 110) rfl (fun h102 => ?_) (fun h102 => ?_)
    · have hno : kOdd (aFo α) σ c 4 = 0 := hnot (fun w => h102 (hcom.mpr w))
      refine x_iconst hC dX0_areOdds_110 (q := 111) rfl (v := (0)) (by decide) ?_
      refine x_icmp_ne hC dX0_areOdds_111 (q := 114) rfl (tgt := 118) rfl (fun h111 => ?_) (fun h111 => ?_)
      · first
          | exact absurd hno h111
          | exact absurd hye h111
      refine x_iconst hC dX0_areOdds_114 (q := 115) rfl (v := (1)) (by decide) ?_
      refine x_goto hC dX0_areOdds_115 (tgt := 119) rfl ?_
      exact x_zret hC hr rfl dX0_areOdds_119 (by (try dsimp only); omega) (by (try dsimp only); omega) ⟨_, _, rfl, rfl⟩
    have hye := hyes (hcom.mp h102)
    refine x_iload hC dX0_areOdds_105 (q := 107) rfl rfl ?_
    refine x_goto hC dX0_areOdds_107 (tgt := 111) rfl ?_
    refine x_icmp_ne hC dX0_areOdds_111 (q := 114) rfl (tgt := 118) rfl (fun h111 => ?_) (fun h111 => ?_)
    · first
        | exact absurd hno h111
        | exact absurd hye h111
    refine x_iconst hC dX0_areOdds_114 (q := 115) rfl (v := (1)) (by decide) ?_
    refine x_goto hC dX0_areOdds_115 (tgt := 119) rfl ?_
    exact x_zret hC hr rfl dX0_areOdds_119 (by (try dsimp only); omega) (by (try dsimp only); omega) ⟨_, _, rfl, rfl⟩
  · exact absurd ((iI_le (a := 0) (b := kI σ 41 q) ⟨by decide, by decide⟩ ⟨by omega, by omega⟩).mpr (by omega)) h20

theorem m_X0_areOdds {l : Launch} {s0 : State} {D : va_G} (h0 : x0 l s0 D) (σ : KS) (gF : xG) (f : aEnv) {ad aa d0 : Nat} {α : aA} {I : Nat → Int32} {V : Nat → Nat → Int32} {M : Nat → Nat → Nat → Int32} (hD : DW gF ad I V M) (hA : AH gF aa α) (hok : aOk α) (hL : LSt gF α d0 σ) (hFo : KFo s0 gF d0) (hAF : AF α σ I V M) (hwk : 0 ≤ kI σ 3 0 ∧ kI σ 3 0 ≤ 900) {c : Nat} (hc : c < aI α 0) : xMet l s0 D yX0_areOdds cX0_areOdds 6 (some .boolean) (xr 43 270 1700 2050) [.ref (kA σ 0 0), .ref aa, .ref ad, .int (nI c)] (kmix (kT σ f) gF) (fun r g1 => ∃ f1 y, r = some (.int 1) ∧ g1 = kmix (kT (kIs σ 5 0 y) f1) gF) := by
  cases hkc : kO σ 0 c 0 with
  | none => exact m_areOdds_n h0 σ gF f hD hA hok hL hFo hAF hwk hc hkc
  | some q =>
    by_cases hlit : iI (kI σ 41 q) = -1
    · exact m_areOdds_u h0 σ gF f hD hA hok hL hFo hAF hwk hc hkc hlit
    · exact m_areOdds_s h0 σ gF f hD hA hok hL hFo hAF hwk hc hkc hlit
