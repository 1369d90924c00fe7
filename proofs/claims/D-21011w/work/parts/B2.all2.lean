/-! what the law's town says of a formula -/
def aRg (α : aA) (c : Nat) (h p r : Int) : Int := if aI α 2 = 0 then kWi (4 * h) else if aI α 2 = 1 then kWi ((aCl α c : Int) + 2 * h - (aGr α c : Int)) else if aI α 2 = 2 ∧ p = 0 then ((aCl α c / 2 : Nat) : Int) else r
def aCk (α : aA) (c : Nat) (r h p : Int) : Bool := if aI α 3 = 1 then decide (70 < r) else if aI α 3 = 2 then decide (12 < h ∧ aGr α c < 4) else if aI α 3 = 3 then decide (r.tmod 7 = 0) else if aI α 3 = 4 then decide (p = 0 ∧ (aCl α c : Int) < 2 * h) else false
def aSt (α : aA) (c d : Nat) (z h : Int) : Bool := if aI α 4 = 1 then decide (z < 5) else if aI α 4 = 2 then decide (z < h ∧ 6 < aGr α c + aGr α d) else if aI α 4 = 3 then decide (z.tmod 3 = 1) else if aI α 4 = 4 then decide (aGr α c + aGr α d < 8 ∨ z = 0) else false
def aBu (α : aA) (h : Int) (k : Nat) (f w : Int) : Int := if aI α 5 = 0 then h else if aI α 5 = 1 then h * (aRo α k : Int) else if aI α 5 = 2 then h + 3 * f + w.tmod 2 else if aI α 5 = 3 then max 0 (2 * (aRo α k : Int) - h) else if 9 < h then 40 else 5
theorem ix_lt {t : Nat} (h : t ≤ 4) : 0 ≤ iI ((t : Int) - 1) ↔ ¬ t = 0 := by
  rw [show (0 : Int32) = iI 0 from rfl, iI_le ⟨by decide, by decide⟩ ⟨by omega, by omega⟩]
  omega
theorem ix_eq {t : Nat} (h : t ≤ 4) (k : Nat) (hk : k ≤ 3) : iI ((t : Int) - 1) = nI k ↔ t = k + 1 := by
  rw [← iI_nat, iI_eq ⟨by omega, by omega⟩ ⟨by omega, by omega⟩]
  omega
theorem aF_lt {c : Nat → Nat} {n i : Nat} (h : i < n) : aF c n i = nI (c i) := if_pos h
theorem nI_div {a b : Nat} (ha : a < 2147483648) (h0 : 0 < b) (hb : b < 100000) : nI a / nI b = nI (a / b) := by
  have h1 : (nI b).toInt = b := nI_toInt (by omega)
  have h2 : (nI a).toInt = a := nI_toInt (by omega)
  have h3 : (nI a / nI b).toInt = ((a / b : Nat) : Int) := by
    rw [Int32.toInt_div_of_ne_right _ _ (fun q => by
      have := congrArg Int32.toInt q
      rw [h1] at this
      exact absurd this (by show ¬ (b : Int) = -1; omega)), h1, h2]
    exact (Int.ofNat_tdiv a b).symm
  rw [← iI_nat (a / b), ← h3, iI_self]
/-- the fields of the law's town -/
def AH (g : xG) (aa : Nat) (α : aA) : Prop := ∃ ca ga ra, g (101, 0) = some (aa, xO 0 (aFs α ca ga ra)) ∧ g (102, 0) = some (ca, xAi .int 6 (aF (aCl α) (aI α 0))) ∧ g (103, 0) = some (ga, xAi .int 6 (aF (aGr α) (aI α 0))) ∧ g (104, 0) = some (ra, xAi .int 3 (aF (aRo α) (aI α 1)))
theorem AX.ah (g : xG) (aa ca ga ra : Nat) (α : aA) : AH (AX g aa ca ga ra (aFs α ca ga ra) (aF (aCl α) (aI α 0)) (aF (aGr α) (aI α 0)) (aF (aRo α) (aI α 1))) aa α := ⟨ca, ga, ra, rfl, rfl, rfl, rfl⟩
theorem AH.ext {g g1 : xG} {aa : Nat} {α : aA} (h : AH g aa α) (hx : ∀ n : xN, 101 ≤ n.1 → n.1 ≤ 104 → g1 n = g n) : AH g1 aa α := by
  obtain ⟨ca, ga, ra, h1, h2, h3, h4⟩ := h
  exact ⟨ca, ga, ra, (hx _ (by decide) (by decide)).trans h1, (hx _ (by decide) (by decide)).trans h2, (hx _ (by decide) (by decide)).trans h3, (hx _ (by decide) (by decide)).trans h4⟩

set_option maxHeartbeats 4000000 in
set_option maxRecDepth 100000 in
theorem m_X1_rings {l : Launch} {s0 : State} {D : va_G} (h0 : x0 l s0 D) (g : xG) {aa : Nat} {α : aA} (hA : AH g aa α) (hok : aOk α) {c h p : Nat} (hc : c < aI α 0) (hh : h < 1000) (hp1 : p < 1000) (r : Int) : xMet l s0 D yX1_rings cX1_rings 5 (some .int) (xr 2 0 0 60) [.ref aa, .int (nI c), .int (nI h), .int (nI p), .int (iI r)] g (fun r1 g1 => r1 = some (.int (iI (aRg α c h p r))) ∧ g1 = g) := by
  obtain ⟨ca, ga, ra, hat, hac, hag, har⟩ := hA
  obtain ⟨hb0, hb1, hb2, hb3, hb4, hb5, hb6, hb7, hb8, hcl, hgr, hro⟩ := hok
  have hcl1 := hcl c
  have hgr1 := hgr c
  refine xMet.of h0 (by decide +kernel) rfl ?_
  intro zp ze zs zm za zb zf zc hC hr hnm
  refine x_aloadr_n hC dX1_rings_0 (q := 1) rfl rfl ?_
  refine x_get hC xf_X1_36_0 dX1_rings_1 (q := 4) rfl (n := (101, 0)) hat rfl ?_
  refine x_if_ge hC dX1_rings_4 (q := 7) rfl (tgt := 16) rfl (fun h4 => ?_) (fun h4 => ?_)
  · have e4 : ¬ aI α 2 = 0 := (ix_lt hb2).mp h4
    refine x_aloadr_n hC dX1_rings_16 (q := 17) rfl rfl ?_
    refine x_get hC xf_X1_36_0 dX1_rings_17 (q := 20) rfl (n := (101, 0)) hat rfl ?_
    refine x_if_ne hC dX1_rings_20 (q := 23) rfl (tgt := 46) rfl (fun h20 => ?_) (fun h20 => ?_)
    · have e20 : ¬ aI α 2 = 1 := fun q => h20 ((ix_eq hb2 0 (by decide)).mpr q)
      refine x_aloadr_n hC dX1_rings_46 (q := 47) rfl rfl ?_
      refine x_get hC xf_X1_36_0 dX1_rings_47 (q := 50) rfl (n := (101, 0)) hat rfl ?_
      refine x_iconst hC dX1_rings_50 (q := 51) rfl (v := (1)) (by decide) ?_
      refine x_icmp_ne hC dX1_rings_51 (q := 54) rfl (tgt := 69) rfl (fun h51 => ?_) (fun h51 => ?_)
      · have e51 : ¬ aI α 2 = 2 := fun q => h51 ((ix_eq hb2 1 (by decide)).mpr q)
        refine x_iload hC dX1_rings_69 (q := 71) rfl rfl ?_
        exact x_iret hC hr dX1_rings_71 (Nat.le_of_ble_eq_true rfl) (Nat.le_of_ble_eq_true rfl) (by refine ⟨?_, rfl⟩; unfold aRg; first | (rw [if_pos e4]; done) | (rw [if_neg e4, if_pos e20]; done) | (rw [if_neg e4, if_neg e20, if_pos ⟨e51, e55⟩, iI_nat]; done) | (rw [if_neg e4, if_neg e20, if_neg (fun q => e51 q.1)]; done) | (rw [if_neg e4, if_neg e20, if_neg (fun q => e55 q.2)]; done))
      have e51 : aI α 2 = 2 := (ix_eq hb2 1 (by decide)).mp h51
      refine x_iload_n hC dX1_rings_54 (q := 55) rfl rfl ?_
      refine x_if_ne hC dX1_rings_55 (q := 58) rfl (tgt := 69) rfl (fun h55 => ?_) (fun h55 => ?_)
      · have e55 : ¬ (p : Int) = 0 := fun q => h55 (by rw [show p = 0 from by omega]; rfl)
        refine x_iload hC dX1_rings_69 (q := 71) rfl rfl ?_
        exact x_iret hC hr dX1_rings_71 (Nat.le_of_ble_eq_true rfl) (Nat.le_of_ble_eq_true rfl) (by refine ⟨?_, rfl⟩; unfold aRg; first | (rw [if_pos e4]; done) | (rw [if_neg e4, if_pos e20]; done) | (rw [if_neg e4, if_neg e20, if_pos ⟨e51, e55⟩, iI_nat]; done) | (rw [if_neg e4, if_neg e20, if_neg (fun q => e51 q.1)]; done) | (rw [if_neg e4, if_neg e20, if_neg (fun q => e55 q.2)]; done))
      have e55 : (p : Int) = 0 := by have := nI_eq0 (by omega) h55; omega
      refine x_aloadr_n hC dX1_rings_58 (q := 59) rfl rfl ?_
      refine x_get hC xf_X1_7_0 dX1_rings_59 (q := 62) rfl (n := (101, 0)) hat rfl ?_
      refine x_iload_n hC dX1_rings_62 (q := 63) rfl rfl ?_
      refine x_iald hC dX1_rings_63 (q := 64) rfl (n := (102, 0)) hac (j := c) rfl (by omega) (by decide) ?_
      refine x_iconst hC dX1_rings_64 (q := 65) rfl (v := (2)) (by decide) ?_
      refine x_idiv hC dX1_rings_65 (q := 66) rfl (by decide) ?_
      rw [aF_lt hc, show (2 : Int32) = nI 2 from rfl, nI_div (by omega) (by decide) (by decide)]
      refine x_goto hC dX1_rings_66 (tgt := 71) rfl ?_
      exact x_iret hC hr dX1_rings_71 (Nat.le_of_ble_eq_true rfl) (Nat.le_of_ble_eq_true rfl) (by refine ⟨?_, rfl⟩; unfold aRg; first | (rw [if_pos e4]; done) | (rw [if_neg e4, if_pos e20]; done) | (rw [if_neg e4, if_neg e20, if_pos ⟨e51, e55⟩, iI_nat]; done) | (rw [if_neg e4, if_neg e20, if_neg (fun q => e51 q.1)]; done) | (rw [if_neg e4, if_neg e20, if_neg (fun q => e55 q.2)]; done))
    have e20 : aI α 2 = 1 := (ix_eq hb2 0 (by decide)).mp h20
    refine x_aloadr_n hC dX1_rings_23 (q := 24) rfl rfl ?_
    refine x_get hC xf_X1_7_0 dX1_rings_24 (q := 27) rfl (n := (101, 0)) hat rfl ?_
    refine x_iload_n hC dX1_rings_27 (q := 28) rfl rfl ?_
    refine x_iald hC dX1_rings_28 (q := 29) rfl (n := (102, 0)) hac (j := c) rfl (by omega) (by decide) ?_
    refine x_iconst hC dX1_rings_29 (q := 30) rfl (v := (2)) (by decide) ?_
    refine x_iload_n hC dX1_rings_30 (q := 31) rfl rfl ?_
    refine x_imul hC dX1_rings_31 (q := 32) rfl ?_
    refine x_iadd hC dX1_rings_32 (q := 33) rfl ?_
    refine x_aloadr_n hC dX1_rings_33 (q := 34) rfl rfl ?_
    refine x_get hC xf_X1_13_0 dX1_rings_34 (q := 37) rfl (n := (101, 0)) hat rfl ?_
    refine x_iload_n hC dX1_rings_37 (q := 38) rfl rfl ?_
    refine x_iald hC dX1_rings_38 (q := 39) rfl (n := (103, 0)) hag (j := c) rfl (by omega) (by decide) ?_
    refine x_isub hC dX1_rings_39 (q := 40) rfl ?_
    rw [aF_lt hc, aF_lt hc, show nI (aCl α c) + 2 * nI h - nI (aGr α c) = iI ((aCl α c : Int) + 2 * (h : Int) - (aGr α c : Int)) from by rw [← iI_nat, ← iI_nat, ← iI_nat, show (2 : Int32) = iI 2 from rfl, iI_mul, iI_add, iI_sub]]
    refine x_callSN hC xv_X1_111 dX1_rings_40 (q := 43) rfl rfl (m_X0_within h0 g (z := (aCl α c : Int) + 2 * (h : Int) - (aGr α c : Int)) ⟨by omega, by omega⟩) rfl (Nat.le_of_ble_eq_true rfl) ⟨(Nat.le_of_ble_eq_true rfl), (Nat.le_of_ble_eq_true rfl)⟩ ⟨(Nat.le_of_ble_eq_true rfl), (Nat.le_of_ble_eq_true rfl)⟩ (fun v g1 hp => ?_)
    obtain ⟨rfl, hg1⟩ := hp
    replace hg1 := hg1.symm
    subst hg1
    refine x_goto hC dX1_rings_43 (tgt := 71) rfl ?_
    exact x_iret hC hr dX1_rings_71 (Nat.le_of_ble_eq_true rfl) (Nat.le_of_ble_eq_true rfl) (by refine ⟨?_, rfl⟩; unfold aRg; first | (rw [if_pos e4]; done) | (rw [if_neg e4, if_pos e20]; done) | (rw [if_neg e4, if_neg e20, if_pos ⟨e51, e55⟩, iI_nat]; done) | (rw [if_neg e4, if_neg e20, if_neg (fun q => e51 q.1)]; done) | (rw [if_neg e4, if_neg e20, if_neg (fun q => e55 q.2)]; done))
  have e4 : aI α 2 = 0 := Classical.byContradiction (fun q => h4 ((ix_lt hb2).mpr q))
  refine x_iconst hC dX1_rings_7 (q := 8) rfl (v := (4)) (by decide) ?_
  refine x_iload_n hC dX1_rings_8 (q := 9) rfl rfl ?_
  refine x_imul hC dX1_rings_9 (q := 10) rfl ?_
  rw [show (4 : Int32) * nI h = iI (4 * (h : Int)) from by rw [← iI_nat]; exact iI_mul 4 _]
  refine x_callSN hC xv_X1_111 dX1_rings_10 (q := 13) rfl rfl (m_X0_within h0 g (z := 4 * (h : Int)) ⟨by omega, by omega⟩) rfl (Nat.le_of_ble_eq_true rfl) ⟨(Nat.le_of_ble_eq_true rfl), (Nat.le_of_ble_eq_true rfl)⟩ ⟨(Nat.le_of_ble_eq_true rfl), (Nat.le_of_ble_eq_true rfl)⟩ (fun v g1 hp => ?_)
  obtain ⟨rfl, hg1⟩ := hp
  replace hg1 := hg1.symm
  subst hg1
  refine x_goto hC dX1_rings_13 (tgt := 71) rfl ?_
  exact x_iret hC hr dX1_rings_71 (Nat.le_of_ble_eq_true rfl) (Nat.le_of_ble_eq_true rfl) (by refine ⟨?_, rfl⟩; unfold aRg; first | (rw [if_pos e4]; done) | (rw [if_neg e4, if_pos e20]; done) | (rw [if_neg e4, if_neg e20, if_pos ⟨e51, e55⟩, iI_nat]; done) | (rw [if_neg e4, if_neg e20, if_neg (fun q => e51 q.1)]; done) | (rw [if_neg e4, if_neg e20, if_neg (fun q => e55 q.2)]; done))

theorem tm_iB {r : Int} {n : Nat} (h : iB r) (hn : n < 100000) : iB (r.tmod n) := by
  by_cases h0 : n = 0
  · subst h0
    rw [show ((0 : Nat) : Int) = 0 from rfl, Int.tmod_zero]; exact h
  have h1 := Int.tmod_lt_of_pos r (show (0 : Int) < n by omega)
  have h2 : -(n : Int) < r.tmod n := by
    have h3 := Int.tmod_lt_of_pos (-r) (show (0 : Int) < n by omega)
    rw [Int.neg_tmod] at h3
    omega
  exact ⟨by omega, by omega⟩

set_option maxHeartbeats 4000000 in
set_option maxRecDepth 100000 in
theorem m_X1_cracks {l : Launch} {s0 : State} {D : va_G} (h0 : x0 l s0 D) (g : xG) {aa : Nat} {α : aA} (hA : AH g aa α) (hok : aOk α) {c h p : Nat} {r : Int} (hc : c < aI α 0) (hr1 : iB r) (hh : h < 1000) (hp1 : p < 1000) : xMet l s0 D yX1_cracks cX1_cracks 5 (some .boolean) (xr 0 0 0 0) [.ref aa, .int (nI c), .int (iI r), .int (nI h), .int (nI p)] g (fun r1 g1 => r1 = some (.int (b01 (aCk α c r h p))) ∧ g1 = g) := by
  obtain ⟨ca, ga, ra, hat, hac, hag, har⟩ := hA
  obtain ⟨hb0, hb1, hb2, hb3, hb4, hb5, hb6, hb7, hb8, hcl, hgr, hro⟩ := hok
  have hcl1 := hcl c
  have hgr1 := hgr c
  refine xMet.of h0 (by decide +kernel) rfl ?_
  intro zp ze zs zm za zb zf zc hC hr hnm
  refine x_aloadr_n hC dX1_cracks_0 (q := 1) rfl rfl ?_
  refine x_get hC xf_X1_42_0 dX1_cracks_1 (q := 4) rfl (n := (101, 0)) hat rfl ?_
  refine x_if_ne hC dX1_cracks_4 (q := 7) rfl (tgt := 21) rfl (fun h4 => ?_) (fun h4 => ?_)
  · have e4 : ¬ aI α 3 = 1 := fun q => h4 ((ix_eq hb3 0 (by decide)).mpr q)
    refine x_aloadr_n hC dX1_cracks_21 (q := 22) rfl rfl ?_
    refine x_get hC xf_X1_42_0 dX1_cracks_22 (q := 25) rfl (n := (101, 0)) hat rfl ?_
    refine x_iconst hC dX1_cracks_25 (q := 26) rfl (v := (1)) (by decide) ?_
    refine x_icmp_ne hC dX1_cracks_26 (q := 29) rfl (tgt := 53) rfl (fun h26 => ?_) (fun h26 => ?_)
    · have e26 : ¬ aI α 3 = 2 := fun q => h26 ((ix_eq hb3 1 (by decide)).mpr q)
      refine x_aloadr_n hC dX1_cracks_53 (q := 54) rfl rfl ?_
      refine x_get hC xf_X1_42_0 dX1_cracks_54 (q := 57) rfl (n := (101, 0)) hat rfl ?_
      refine x_iconst hC dX1_cracks_57 (q := 58) rfl (v := (2)) (by decide) ?_
      refine x_icmp_ne hC dX1_cracks_58 (q := 61) rfl (tgt := 76) rfl (fun h58 => ?_) (fun h58 => ?_)
      · have e58 : ¬ aI α 3 = 3 := fun q => h58 ((ix_eq hb3 2 (by decide)).mpr q)
        refine x_aloadr_n hC dX1_cracks_76 (q := 77) rfl rfl ?_
        refine x_get hC xf_X1_42_0 dX1_cracks_77 (q := 80) rfl (n := (101, 0)) hat rfl ?_
        refine x_iconst hC dX1_cracks_80 (q := 81) rfl (v := (3)) (by decide) ?_
        refine x_icmp_ne hC dX1_cracks_81 (q := 84) rfl (tgt := 105) rfl (fun h81 => ?_) (fun h81 => ?_)
        · have e81 : ¬ aI α 3 = 4 := fun q => h81 ((ix_eq hb3 3 (by decide)).mpr q)
          refine x_iconst hC dX1_cracks_105 (q := 106) rfl (v := (0)) (by decide) ?_
          exact x_zret hC hr rfl dX1_cracks_106 (Nat.le_of_ble_eq_true rfl) (Nat.le_of_ble_eq_true rfl) (by refine ⟨?_, rfl⟩; unfold aCk; first | (rw [if_pos e4, decide_eq_true q10]; rfl) | (rw [if_pos e4, decide_eq_false q10]; rfl) | (rw [if_neg e4, if_pos e26, decide_eq_true q42]; rfl) | (rw [if_neg e4, if_pos e26, decide_eq_false q32]; rfl) | (rw [if_neg e4, if_neg e26, if_pos e58, decide_eq_true q65]; rfl) | (rw [if_neg e4, if_neg e26, if_pos e58, decide_eq_false q65]; rfl) | (rw [if_neg e4, if_neg e26, if_neg e58, if_pos e81, decide_eq_true q98]; rfl) | (rw [if_neg e4, if_neg e26, if_neg e58, if_pos e81, decide_eq_false q86]; rfl) | (rw [if_neg e4, if_neg e26, if_neg e58, if_neg e81]; rfl))
        have e81 : aI α 3 = 4 := (ix_eq hb3 3 (by decide)).mp h81
        refine x_iload hC dX1_cracks_84 (q := 86) rfl rfl ?_
        refine x_if_ne hC dX1_cracks_86 (q := 89) rfl (tgt := 105) rfl (fun h86 => ?_) (fun h86 => ?_)
        · have q86 : ¬ ((p : Int) = 0 ∧ (aCl α c : Int) < 2 * (h : Int)) := fun q => h86 (by rw [show p = 0 from by omega]; rfl)
          refine x_iconst hC dX1_cracks_105 (q := 106) rfl (v := (0)) (by decide) ?_
          exact x_zret hC hr rfl dX1_cracks_106 (Nat.le_of_ble_eq_true rfl) (Nat.le_of_ble_eq_true rfl) (by refine ⟨?_, rfl⟩; unfold aCk; first | (rw [if_pos e4, decide_eq_true q10]; rfl) | (rw [if_pos e4, decide_eq_false q10]; rfl) | (rw [if_neg e4, if_pos e26, decide_eq_true q42]; rfl) | (rw [if_neg e4, if_pos e26, decide_eq_false q32]; rfl) | (rw [if_neg e4, if_neg e26, if_pos e58, decide_eq_true q65]; rfl) | (rw [if_neg e4, if_neg e26, if_pos e58, decide_eq_false q65]; rfl) | (rw [if_neg e4, if_neg e26, if_neg e58, if_pos e81, decide_eq_true q98]; rfl) | (rw [if_neg e4, if_neg e26, if_neg e58, if_pos e81, decide_eq_false q86]; rfl) | (rw [if_neg e4, if_neg e26, if_neg e58, if_neg e81]; rfl))
        have q86 : (p : Int) = 0 := by have := nI_eq0 (by omega) h86; omega
        refine x_iconst hC dX1_cracks_89 (q := 90) rfl (v := (2)) (by decide) ?_
        refine x_iload_n hC dX1_cracks_90 (q := 91) rfl rfl ?_
        refine x_imul hC dX1_cracks_91 (q := 92) rfl ?_
        refine x_aloadr_n hC dX1_cracks_92 (q := 93) rfl rfl ?_
        refine x_get hC xf_X1_7_0 dX1_cracks_93 (q := 96) rfl (n := (101, 0)) hat rfl ?_
        refine x_iload_n hC dX1_cracks_96 (q := 97) rfl rfl ?_
        refine x_iald hC dX1_cracks_97 (q := 98) rfl (n := (102, 0)) hac (j := c) rfl (by omega) (by decide) ?_
        rw [aF_lt hc, show (2 : Int32) = nI 2 from rfl, nI_mu]
        refine x_icmp_le hC dX1_cracks_98 (q := 101) rfl (tgt := 105) rfl (fun h98 => ?_) (fun h98 => ?_)
        · have q86 : ¬ ((p : Int) = 0 ∧ (aCl α c : Int) < 2 * (h : Int)) := fun q => absurd ((nI_leI (by omega) (by omega)).mp h98) (by omega)
          refine x_iconst hC dX1_cracks_105 (q := 106) rfl (v := (0)) (by decide) ?_
          exact x_zret hC hr rfl dX1_cracks_106 (Nat.le_of_ble_eq_true rfl) (Nat.le_of_ble_eq_true rfl) (by refine ⟨?_, rfl⟩; unfold aCk; first | (rw [if_pos e4, decide_eq_true q10]; rfl) | (rw [if_pos e4, decide_eq_false q10]; rfl) | (rw [if_neg e4, if_pos e26, decide_eq_true q42]; rfl) | (rw [if_neg e4, if_pos e26, decide_eq_false q32]; rfl) | (rw [if_neg e4, if_neg e26, if_pos e58, decide_eq_true q65]; rfl) | (rw [if_neg e4, if_neg e26, if_pos e58, decide_eq_false q65]; rfl) | (rw [if_neg e4, if_neg e26, if_neg e58, if_pos e81, decide_eq_true q98]; rfl) | (rw [if_neg e4, if_neg e26, if_neg e58, if_pos e81, decide_eq_false q86]; rfl) | (rw [if_neg e4, if_neg e26, if_neg e58, if_neg e81]; rfl))
        have q98 : ((p : Int) = 0 ∧ (aCl α c : Int) < 2 * (h : Int)) := ⟨q86, Int.not_le.mp (fun q => h98 (nI_le (by omega) (by omega)))⟩
        refine x_iconst hC dX1_cracks_101 (q := 102) rfl (v := (1)) (by decide) ?_
        refine x_goto hC dX1_cracks_102 (tgt := 106) rfl ?_
        exact x_zret hC hr rfl dX1_cracks_106 (Nat.le_of_ble_eq_true rfl) (Nat.le_of_ble_eq_true rfl) (by refine ⟨?_, rfl⟩; unfold aCk; first | (rw [if_pos e4, decide_eq_true q10]; rfl) | (rw [if_pos e4, decide_eq_false q10]; rfl) | (rw [if_neg e4, if_pos e26, decide_eq_true q42]; rfl) | (rw [if_neg e4, if_pos e26, decide_eq_false q32]; rfl) | (rw [if_neg e4, if_neg e26, if_pos e58, decide_eq_true q65]; rfl) | (rw [if_neg e4, if_neg e26, if_pos e58, decide_eq_false q65]; rfl) | (rw [if_neg e4, if_neg e26, if_neg e58, if_pos e81, decide_eq_true q98]; rfl) | (rw [if_neg e4, if_neg e26, if_neg e58, if_pos e81, decide_eq_false q86]; rfl) | (rw [if_neg e4, if_neg e26, if_neg e58, if_neg e81]; rfl))
      have e58 : aI α 3 = 3 := (ix_eq hb3 2 (by decide)).mp h58
      refine x_iload_n hC dX1_cracks_61 (q := 62) rfl rfl ?_
      refine x_bipush hC dX1_cracks_62 (q := 64) rfl (v := (7)) (by decide) ?_
      refine x_irem hC dX1_cracks_64 (q := 65) rfl (by decide) ?_
      rw [show (7 : Int32) = nI 7 from rfl, rem_iI hr1 (by decide) (by decide)]
      refine x_if_ne hC dX1_cracks_65 (q := 68) rfl (tgt := 72) rfl (fun h65 => ?_) (fun h65 => ?_)
      · have q65 : ¬ r.tmod 7 = 0 := fun q => h65 (by rw [show r.tmod ((7 : Nat) : Int) = 0 from q]; rfl)
        refine x_iconst hC dX1_cracks_72 (q := 73) rfl (v := (0)) (by decide) ?_
        refine x_goto hC dX1_cracks_73 (tgt := 106) rfl ?_
        exact x_zret hC hr rfl dX1_cracks_106 (Nat.le_of_ble_eq_true rfl) (Nat.le_of_ble_eq_true rfl) (by refine ⟨?_, rfl⟩; unfold aCk; first | (rw [if_pos e4, decide_eq_true q10]; rfl) | (rw [if_pos e4, decide_eq_false q10]; rfl) | (rw [if_neg e4, if_pos e26, decide_eq_true q42]; rfl) | (rw [if_neg e4, if_pos e26, decide_eq_false q32]; rfl) | (rw [if_neg e4, if_neg e26, if_pos e58, decide_eq_true q65]; rfl) | (rw [if_neg e4, if_neg e26, if_pos e58, decide_eq_false q65]; rfl) | (rw [if_neg e4, if_neg e26, if_neg e58, if_pos e81, decide_eq_true q98]; rfl) | (rw [if_neg e4, if_neg e26, if_neg e58, if_pos e81, decide_eq_false q86]; rfl) | (rw [if_neg e4, if_neg e26, if_neg e58, if_neg e81]; rfl))
      have q65 : r.tmod 7 = 0 := (iI_eq (b := 0) (tm_iB hr1 (by decide)) ⟨by decide, by decide⟩).mp h65
      refine x_iconst hC dX1_cracks_68 (q := 69) rfl (v := (1)) (by decide) ?_
      refine x_goto hC dX1_cracks_69 (tgt := 106) rfl ?_
      exact x_zret hC hr rfl dX1_cracks_106 (Nat.le_of_ble_eq_true rfl) (Nat.le_of_ble_eq_true rfl) (by refine ⟨?_, rfl⟩; unfold aCk; first | (rw [if_pos e4, decide_eq_true q10]; rfl) | (rw [if_pos e4, decide_eq_false q10]; rfl) | (rw [if_neg e4, if_pos e26, decide_eq_true q42]; rfl) | (rw [if_neg e4, if_pos e26, decide_eq_false q32]; rfl) | (rw [if_neg e4, if_neg e26, if_pos e58, decide_eq_true q65]; rfl) | (rw [if_neg e4, if_neg e26, if_pos e58, decide_eq_false q65]; rfl) | (rw [if_neg e4, if_neg e26, if_neg e58, if_pos e81, decide_eq_true q98]; rfl) | (rw [if_neg e4, if_neg e26, if_neg e58, if_pos e81, decide_eq_false q86]; rfl) | (rw [if_neg e4, if_neg e26, if_neg e58, if_neg e81]; rfl))
    have e26 : aI α 3 = 2 := (ix_eq hb3 1 (by decide)).mp h26
    refine x_iload_n hC dX1_cracks_29 (q := 30) rfl rfl ?_
    refine x_bipush hC dX1_cracks_30 (q := 32) rfl (v := (12)) (by decide) ?_
    refine x_icmp_le hC dX1_cracks_32 (q := 35) rfl (tgt := 49) rfl (fun h32 => ?_) (fun h32 => ?_)
    · have q32 : ¬ (12 < (h : Int) ∧ aGr α c < 4) := fun q => absurd ((nI_leI (b := 12) (by omega) (by decide)).mp h32) (by omega)
      refine x_iconst hC dX1_cracks_49 (q := 50) rfl (v := (0)) (by decide) ?_
      refine x_goto hC dX1_cracks_50 (tgt := 106) rfl ?_
      exact x_zret hC hr rfl dX1_cracks_106 (Nat.le_of_ble_eq_true rfl) (Nat.le_of_ble_eq_true rfl) (by refine ⟨?_, rfl⟩; unfold aCk; first | (rw [if_pos e4, decide_eq_true q10]; rfl) | (rw [if_pos e4, decide_eq_false q10]; rfl) | (rw [if_neg e4, if_pos e26, decide_eq_true q42]; rfl) | (rw [if_neg e4, if_pos e26, decide_eq_false q32]; rfl) | (rw [if_neg e4, if_neg e26, if_pos e58, decide_eq_true q65]; rfl) | (rw [if_neg e4, if_neg e26, if_pos e58, decide_eq_false q65]; rfl) | (rw [if_neg e4, if_neg e26, if_neg e58, if_pos e81, decide_eq_true q98]; rfl) | (rw [if_neg e4, if_neg e26, if_neg e58, if_pos e81, decide_eq_false q86]; rfl) | (rw [if_neg e4, if_neg e26, if_neg e58, if_neg e81]; rfl))
    have q32 : 12 < h := Nat.not_le.mp (fun q => h32 (nI_le q (by decide)))
    refine x_aloadr_n hC dX1_cracks_35 (q := 36) rfl rfl ?_
    refine x_get hC xf_X1_13_0 dX1_cracks_36 (q := 39) rfl (n := (101, 0)) hat rfl ?_
    refine x_iload_n hC dX1_cracks_39 (q := 40) rfl rfl ?_
    refine x_iald hC dX1_cracks_40 (q := 41) rfl (n := (103, 0)) hag (j := c) rfl (by omega) (by decide) ?_
    rw [aF_lt hc]
    refine x_iconst hC dX1_cracks_41 (q := 42) rfl (v := (4)) (by decide) ?_
    refine x_icmp_ge hC dX1_cracks_42 (q := 45) rfl (tgt := 49) rfl (fun h42 => ?_) (fun h42 => ?_)
    · have q32 : ¬ (12 < (h : Int) ∧ aGr α c < 4) := fun q => absurd ((nI_leI (a := 4) (by decide) (by omega)).mp h42) (by omega)
      refine x_iconst hC dX1_cracks_49 (q := 50) rfl (v := (0)) (by decide) ?_
      refine x_goto hC dX1_cracks_50 (tgt := 106) rfl ?_
      exact x_zret hC hr rfl dX1_cracks_106 (Nat.le_of_ble_eq_true rfl) (Nat.le_of_ble_eq_true rfl) (by refine ⟨?_, rfl⟩; unfold aCk; first | (rw [if_pos e4, decide_eq_true q10]; rfl) | (rw [if_pos e4, decide_eq_false q10]; rfl) | (rw [if_neg e4, if_pos e26, decide_eq_true q42]; rfl) | (rw [if_neg e4, if_pos e26, decide_eq_false q32]; rfl) | (rw [if_neg e4, if_neg e26, if_pos e58, decide_eq_true q65]; rfl) | (rw [if_neg e4, if_neg e26, if_pos e58, decide_eq_false q65]; rfl) | (rw [if_neg e4, if_neg e26, if_neg e58, if_pos e81, decide_eq_true q98]; rfl) | (rw [if_neg e4, if_neg e26, if_neg e58, if_pos e81, decide_eq_false q86]; rfl) | (rw [if_neg e4, if_neg e26, if_neg e58, if_neg e81]; rfl))
    have q42 : (12 < (h : Int) ∧ aGr α c < 4) := ⟨by omega, Nat.not_le.mp (fun q => h42 (nI_le (a := 4) q (by omega)))⟩
    refine x_iconst hC dX1_cracks_45 (q := 46) rfl (v := (1)) (by decide) ?_
    refine x_goto hC dX1_cracks_46 (tgt := 106) rfl ?_
    exact x_zret hC hr rfl dX1_cracks_106 (Nat.le_of_ble_eq_true rfl) (Nat.le_of_ble_eq_true rfl) (by refine ⟨?_, rfl⟩; unfold aCk; first | (rw [if_pos e4, decide_eq_true q10]; rfl) | (rw [if_pos e4, decide_eq_false q10]; rfl) | (rw [if_neg e4, if_pos e26, decide_eq_true q42]; rfl) | (rw [if_neg e4, if_pos e26, decide_eq_false q32]; rfl) | (rw [if_neg e4, if_neg e26, if_pos e58, decide_eq_true q65]; rfl) | (rw [if_neg e4, if_neg e26, if_pos e58, decide_eq_false q65]; rfl) | (rw [if_neg e4, if_neg e26, if_neg e58, if_pos e81, decide_eq_true q98]; rfl) | (rw [if_neg e4, if_neg e26, if_neg e58, if_pos e81, decide_eq_false q86]; rfl) | (rw [if_neg e4, if_neg e26, if_neg e58, if_neg e81]; rfl))
  have e4 : aI α 3 = 1 := (ix_eq hb3 0 (by decide)).mp h4
  refine x_iload_n hC dX1_cracks_7 (q := 8) rfl rfl ?_
  refine x_bipush hC dX1_cracks_8 (q := 10) rfl (v := (70)) (by decide) ?_
  refine x_icmp_le hC dX1_cracks_10 (q := 13) rfl (tgt := 17) rfl (fun h10 => ?_) (fun h10 => ?_)
  · have q10 : ¬ 70 < r := fun q => absurd ((iI_le (b := 70) hr1 ⟨by decide, by decide⟩).mp h10) (by omega)
    refine x_iconst hC dX1_cracks_17 (q := 18) rfl (v := (0)) (by decide) ?_
    refine x_goto hC dX1_cracks_18 (tgt := 106) rfl ?_
    exact x_zret hC hr rfl dX1_cracks_106 (Nat.le_of_ble_eq_true rfl) (Nat.le_of_ble_eq_true rfl) (by refine ⟨?_, rfl⟩; unfold aCk; first | (rw [if_pos e4, decide_eq_true q10]; rfl) | (rw [if_pos e4, decide_eq_false q10]; rfl) | (rw [if_neg e4, if_pos e26, decide_eq_true q42]; rfl) | (rw [if_neg e4, if_pos e26, decide_eq_false q32]; rfl) | (rw [if_neg e4, if_neg e26, if_pos e58, decide_eq_true q65]; rfl) | (rw [if_neg e4, if_neg e26, if_pos e58, decide_eq_false q65]; rfl) | (rw [if_neg e4, if_neg e26, if_neg e58, if_pos e81, decide_eq_true q98]; rfl) | (rw [if_neg e4, if_neg e26, if_neg e58, if_pos e81, decide_eq_false q86]; rfl) | (rw [if_neg e4, if_neg e26, if_neg e58, if_neg e81]; rfl))
  have q10 : 70 < r := Int.not_le.mp (fun q => h10 ((iI_le (b := 70) hr1 ⟨by decide, by decide⟩).mpr q))
  refine x_iconst hC dX1_cracks_13 (q := 14) rfl (v := (1)) (by decide) ?_
  refine x_goto hC dX1_cracks_14 (tgt := 106) rfl ?_
  exact x_zret hC hr rfl dX1_cracks_106 (Nat.le_of_ble_eq_true rfl) (Nat.le_of_ble_eq_true rfl) (by refine ⟨?_, rfl⟩; unfold aCk; first | (rw [if_pos e4, decide_eq_true q10]; rfl) | (rw [if_pos e4, decide_eq_false q10]; rfl) | (rw [if_neg e4, if_pos e26, decide_eq_true q42]; rfl) | (rw [if_neg e4, if_pos e26, decide_eq_false q32]; rfl) | (rw [if_neg e4, if_neg e26, if_pos e58, decide_eq_true q65]; rfl) | (rw [if_neg e4, if_neg e26, if_pos e58, decide_eq_false q65]; rfl) | (rw [if_neg e4, if_neg e26, if_neg e58, if_pos e81, decide_eq_true q98]; rfl) | (rw [if_neg e4, if_neg e26, if_neg e58, if_pos e81, decide_eq_false q86]; rfl) | (rw [if_neg e4, if_neg e26, if_neg e58, if_neg e81]; rfl))

set_option maxHeartbeats 4000000 in
set_option maxRecDepth 100000 in
theorem m_X1_sticks {l : Launch} {s0 : State} {D : va_G} (h0 : x0 l s0 D) (g : xG) {aa : Nat} {α : aA} (hA : AH g aa α) (hok : aOk α) {c d : Nat} {z h : Int} (hc : c < aI α 0) (hd : d < aI α 0) (hz : iB z) (hh : iB h) : xMet l s0 D yX1_sticks cX1_sticks 6 (some .boolean) (xr 0 0 0 0) [.ref aa, .int (nI c), .int (nI d), .int (iI z), .int (iI h)] g (fun r1 g1 => r1 = some (.int (b01 (aSt α c d z h))) ∧ g1 = g) := by
  obtain ⟨ca, ga, ra, hat, hac, hag, har⟩ := hA
  obtain ⟨hb0, hb1, hb2, hb3, hb4, hb5, hb6, hb7, hb8, hcl, hgr, hro⟩ := hok
  have hcl1 := hcl c
  have hgr1 := hgr c
  have hgr2 := hgr d
  refine xMet.of h0 (by decide +kernel) rfl ?_
  intro zp ze zs zm za zb zf zc hC hr hnm
  refine x_aloadr_n hC dX1_sticks_0 (q := 1) rfl rfl ?_
  refine x_get hC xf_X1_13_0 dX1_sticks_1 (q := 4) rfl (n := (101, 0)) hat rfl ?_
  refine x_iload_n hC dX1_sticks_4 (q := 5) rfl rfl ?_
  refine x_iald hC dX1_sticks_5 (q := 6) rfl (n := (103, 0)) hag (j := c) rfl (by omega) (by decide) ?_
  refine x_aloadr_n hC dX1_sticks_6 (q := 7) rfl rfl ?_
  refine x_get hC xf_X1_13_0 dX1_sticks_7 (q := 10) rfl (n := (101, 0)) hat rfl ?_
  refine x_iload_n hC dX1_sticks_10 (q := 11) rfl rfl ?_
  refine x_iald hC dX1_sticks_11 (q := 12) rfl (n := (103, 0)) hag (j := d) rfl (by omega) (by decide) ?_
  refine x_iadd hC dX1_sticks_12 (q := 13) rfl ?_
  rw [aF_lt hc, aF_lt hd, nI_add]
  refine x_istore hC dX1_sticks_13 (q := 15) rfl rfl ?_
  refine x_aloadr_n hC dX1_sticks_15 (q := 16) rfl rfl ?_
  refine x_get hC xf_X1_48_0 dX1_sticks_16 (q := 19) rfl (n := (101, 0)) hat rfl ?_
  refine x_if_ne hC dX1_sticks_19 (q := 22) rfl (tgt := 35) rfl (fun h19 => ?_) (fun h19 => ?_)
  · have e19 : ¬ aI α 4 = 1 := fun q => h19 ((ix_eq hb4 0 (by decide)).mpr q)
    refine x_aloadr_n hC dX1_sticks_35 (q := 36) rfl rfl ?_
    refine x_get hC xf_X1_48_0 dX1_sticks_36 (q := 39) rfl (n := (101, 0)) hat rfl ?_
    refine x_iconst hC dX1_sticks_39 (q := 40) rfl (v := (1)) (by decide) ?_
    refine x_icmp_ne hC dX1_sticks_40 (q := 43) rfl (tgt := 64) rfl (fun h40 => ?_) (fun h40 => ?_)
    · have e40 : ¬ aI α 4 = 2 := fun q => h40 ((ix_eq hb4 1 (by decide)).mpr q)
      refine x_aloadr_n hC dX1_sticks_64 (q := 65) rfl rfl ?_
      refine x_get hC xf_X1_48_0 dX1_sticks_65 (q := 68) rfl (n := (101, 0)) hat rfl ?_
      refine x_iconst hC dX1_sticks_68 (q := 69) rfl (v := (2)) (by decide) ?_
      refine x_icmp_ne hC dX1_sticks_69 (q := 72) rfl (tgt := 87) rfl (fun h69 => ?_) (fun h69 => ?_)
      · have e69 : ¬ aI α 4 = 3 := fun q => h69 ((ix_eq hb4 2 (by decide)).mpr q)
        refine x_aloadr_n hC dX1_sticks_87 (q := 88) rfl rfl ?_
        refine x_get hC xf_X1_48_0 dX1_sticks_88 (q := 91) rfl (n := (101, 0)) hat rfl ?_
        refine x_iconst hC dX1_sticks_91 (q := 92) rfl (v := (3)) (by decide) ?_
        refine x_icmp_ne hC dX1_sticks_92 (q := 95) rfl (tgt := 110) rfl (fun h92 => ?_) (fun h92 => ?_)
        · have e92 : ¬ aI α 4 = 4 := fun q => h92 ((ix_eq hb4 3 (by decide)).mpr q)
          refine x_iconst hC dX1_sticks_110 (q := 111) rfl (v := (0)) (by decide) ?_
          exact x_zret hC hr rfl dX1_sticks_111 (Nat.le_of_ble_eq_true rfl) (Nat.le_of_ble_eq_true rfl) (by refine ⟨?_, rfl⟩; unfold aSt; first | (rw [if_pos e19, decide_eq_true q24]; rfl) | (rw [if_pos e19, decide_eq_false q24]; rfl) | (rw [if_neg e19, if_pos e40, decide_eq_true q53]; rfl) | (rw [if_neg e19, if_pos e40, decide_eq_false q46]; rfl) | (rw [if_neg e19, if_neg e40, if_pos e69, decide_eq_true q76]; rfl) | (rw [if_neg e19, if_neg e40, if_pos e69, decide_eq_false q76]; rfl) | (rw [if_neg e19, if_neg e40, if_neg e69, if_pos e92, decide_eq_true q99]; rfl) | (rw [if_neg e19, if_neg e40, if_neg e69, if_pos e92, decide_eq_false q103]; rfl) | (rw [if_neg e19, if_neg e40, if_neg e69, if_neg e92]; rfl))
        have e92 : aI α 4 = 4 := (ix_eq hb4 3 (by decide)).mp h92
        refine x_iload hC dX1_sticks_95 (q := 97) rfl rfl ?_
        refine x_bipush hC dX1_sticks_97 (q := 99) rfl (v := (8)) (by decide) ?_
        refine x_icmp_lt hC dX1_sticks_99 (q := 102) rfl (tgt := 106) rfl (fun h99 => ?_) (fun h99 => ?_)
        · have q99 : aGr α c + aGr α d < 8 ∨ z = 0 := Or.inl (by have := (iI_lt (a := ((aGr α c + aGr α d : Nat) : Int)) (b := 8) ⟨by omega, by omega⟩ ⟨by decide, by decide⟩).mp h99; omega)
          refine x_iconst hC dX1_sticks_106 (q := 107) rfl (v := (1)) (by decide) ?_
          refine x_goto hC dX1_sticks_107 (tgt := 111) rfl ?_
          exact x_zret hC hr rfl dX1_sticks_111 (Nat.le_of_ble_eq_true rfl) (Nat.le_of_ble_eq_true rfl) (by refine ⟨?_, rfl⟩; unfold aSt; first | (rw [if_pos e19, decide_eq_true q24]; rfl) | (rw [if_pos e19, decide_eq_false q24]; rfl) | (rw [if_neg e19, if_pos e40, decide_eq_true q53]; rfl) | (rw [if_neg e19, if_pos e40, decide_eq_false q46]; rfl) | (rw [if_neg e19, if_neg e40, if_pos e69, decide_eq_true q76]; rfl) | (rw [if_neg e19, if_neg e40, if_pos e69, decide_eq_false q76]; rfl) | (rw [if_neg e19, if_neg e40, if_neg e69, if_pos e92, decide_eq_true q99]; rfl) | (rw [if_neg e19, if_neg e40, if_neg e69, if_pos e92, decide_eq_false q103]; rfl) | (rw [if_neg e19, if_neg e40, if_neg e69, if_neg e92]; rfl))
        have q99f : ¬ aGr α c + aGr α d < 8 := fun q => h99 (nI_lt (b := 8) q (by decide))
        refine x_iload_n hC dX1_sticks_102 (q := 103) rfl rfl ?_
        refine x_if_ne hC dX1_sticks_103 (q := 106) rfl (tgt := 110) rfl (fun h103 => ?_) (fun h103 => ?_)
        · have q103 : ¬ (aGr α c + aGr α d < 8 ∨ z = 0) := fun q => q.elim q99f (fun q => h103 (by rw [q]; rfl))
          refine x_iconst hC dX1_sticks_110 (q := 111) rfl (v := (0)) (by decide) ?_
          exact x_zret hC hr rfl dX1_sticks_111 (Nat.le_of_ble_eq_true rfl) (Nat.le_of_ble_eq_true rfl) (by refine ⟨?_, rfl⟩; unfold aSt; first | (rw [if_pos e19, decide_eq_true q24]; rfl) | (rw [if_pos e19, decide_eq_false q24]; rfl) | (rw [if_neg e19, if_pos e40, decide_eq_true q53]; rfl) | (rw [if_neg e19, if_pos e40, decide_eq_false q46]; rfl) | (rw [if_neg e19, if_neg e40, if_pos e69, decide_eq_true q76]; rfl) | (rw [if_neg e19, if_neg e40, if_pos e69, decide_eq_false q76]; rfl) | (rw [if_neg e19, if_neg e40, if_neg e69, if_pos e92, decide_eq_true q99]; rfl) | (rw [if_neg e19, if_neg e40, if_neg e69, if_pos e92, decide_eq_false q103]; rfl) | (rw [if_neg e19, if_neg e40, if_neg e69, if_neg e92]; rfl))
        have q99 : aGr α c + aGr α d < 8 ∨ z = 0 := Or.inr ((iI_eq (b := 0) hz ⟨by decide, by decide⟩).mp h103)
        refine x_iconst hC dX1_sticks_106 (q := 107) rfl (v := (1)) (by decide) ?_
        refine x_goto hC dX1_sticks_107 (tgt := 111) rfl ?_
        exact x_zret hC hr rfl dX1_sticks_111 (Nat.le_of_ble_eq_true rfl) (Nat.le_of_ble_eq_true rfl) (by refine ⟨?_, rfl⟩; unfold aSt; first | (rw [if_pos e19, decide_eq_true q24]; rfl) | (rw [if_pos e19, decide_eq_false q24]; rfl) | (rw [if_neg e19, if_pos e40, decide_eq_true q53]; rfl) | (rw [if_neg e19, if_pos e40, decide_eq_false q46]; rfl) | (rw [if_neg e19, if_neg e40, if_pos e69, decide_eq_true q76]; rfl) | (rw [if_neg e19, if_neg e40, if_pos e69, decide_eq_false q76]; rfl) | (rw [if_neg e19, if_neg e40, if_neg e69, if_pos e92, decide_eq_true q99]; rfl) | (rw [if_neg e19, if_neg e40, if_neg e69, if_pos e92, decide_eq_false q103]; rfl) | (rw [if_neg e19, if_neg e40, if_neg e69, if_neg e92]; rfl))
      have e69 : aI α 4 = 3 := (ix_eq hb4 2 (by decide)).mp h69
      refine x_iload_n hC dX1_sticks_72 (q := 73) rfl rfl ?_
      refine x_iconst hC dX1_sticks_73 (q := 74) rfl (v := (3)) (by decide) ?_
      refine x_irem hC dX1_sticks_74 (q := 75) rfl (by decide) ?_
      rw [show (3 : Int32) = nI 3 from rfl, rem_iI hz (by decide) (by decide)]
      refine x_iconst hC dX1_sticks_75 (q := 76) rfl (v := (1)) (by decide) ?_
      refine x_icmp_ne hC dX1_sticks_76 (q := 79) rfl (tgt := 83) rfl (fun h76 => ?_) (fun h76 => ?_)
      · have q76 : ¬ z.tmod 3 = 1 := fun q => h76 (by rw [show z.tmod ((3 : Nat) : Int) = 1 from q]; rfl)
        refine x_iconst hC dX1_sticks_83 (q := 84) rfl (v := (0)) (by decide) ?_
        refine x_goto hC dX1_sticks_84 (tgt := 111) rfl ?_
        exact x_zret hC hr rfl dX1_sticks_111 (Nat.le_of_ble_eq_true rfl) (Nat.le_of_ble_eq_true rfl) (by refine ⟨?_, rfl⟩; unfold aSt; first | (rw [if_pos e19, decide_eq_true q24]; rfl) | (rw [if_pos e19, decide_eq_false q24]; rfl) | (rw [if_neg e19, if_pos e40, decide_eq_true q53]; rfl) | (rw [if_neg e19, if_pos e40, decide_eq_false q46]; rfl) | (rw [if_neg e19, if_neg e40, if_pos e69, decide_eq_true q76]; rfl) | (rw [if_neg e19, if_neg e40, if_pos e69, decide_eq_false q76]; rfl) | (rw [if_neg e19, if_neg e40, if_neg e69, if_pos e92, decide_eq_true q99]; rfl) | (rw [if_neg e19, if_neg e40, if_neg e69, if_pos e92, decide_eq_false q103]; rfl) | (rw [if_neg e19, if_neg e40, if_neg e69, if_neg e92]; rfl))
      have q76 : z.tmod 3 = 1 := (iI_eq (b := 1) (tm_iB hz (by decide)) ⟨by decide, by decide⟩).mp h76
      refine x_iconst hC dX1_sticks_79 (q := 80) rfl (v := (1)) (by decide) ?_
      refine x_goto hC dX1_sticks_80 (tgt := 111) rfl ?_
      exact x_zret hC hr rfl dX1_sticks_111 (Nat.le_of_ble_eq_true rfl) (Nat.le_of_ble_eq_true rfl) (by refine ⟨?_, rfl⟩; unfold aSt; first | (rw [if_pos e19, decide_eq_true q24]; rfl) | (rw [if_pos e19, decide_eq_false q24]; rfl) | (rw [if_neg e19, if_pos e40, decide_eq_true q53]; rfl) | (rw [if_neg e19, if_pos e40, decide_eq_false q46]; rfl) | (rw [if_neg e19, if_neg e40, if_pos e69, decide_eq_true q76]; rfl) | (rw [if_neg e19, if_neg e40, if_pos e69, decide_eq_false q76]; rfl) | (rw [if_neg e19, if_neg e40, if_neg e69, if_pos e92, decide_eq_true q99]; rfl) | (rw [if_neg e19, if_neg e40, if_neg e69, if_pos e92, decide_eq_false q103]; rfl) | (rw [if_neg e19, if_neg e40, if_neg e69, if_neg e92]; rfl))
    have e40 : aI α 4 = 2 := (ix_eq hb4 1 (by decide)).mp h40
    refine x_iload_n hC dX1_sticks_43 (q := 44) rfl rfl ?_
    refine x_iload hC dX1_sticks_44 (q := 46) rfl rfl ?_
    refine x_icmp_ge hC dX1_sticks_46 (q := 49) rfl (tgt := 60) rfl (fun h46 => ?_) (fun h46 => ?_)
    · have q46 : ¬ (z < h ∧ 6 < aGr α c + aGr α d) := fun q => absurd ((iI_le hh hz).mp h46) (by omega)
      refine x_iconst hC dX1_sticks_60 (q := 61) rfl (v := (0)) (by decide) ?_
      refine x_goto hC dX1_sticks_61 (tgt := 111) rfl ?_
      exact x_zret hC hr rfl dX1_sticks_111 (Nat.le_of_ble_eq_true rfl) (Nat.le_of_ble_eq_true rfl) (by refine ⟨?_, rfl⟩; unfold aSt; first | (rw [if_pos e19, decide_eq_true q24]; rfl) | (rw [if_pos e19, decide_eq_false q24]; rfl) | (rw [if_neg e19, if_pos e40, decide_eq_true q53]; rfl) | (rw [if_neg e19, if_pos e40, decide_eq_false q46]; rfl) | (rw [if_neg e19, if_neg e40, if_pos e69, decide_eq_true q76]; rfl) | (rw [if_neg e19, if_neg e40, if_pos e69, decide_eq_false q76]; rfl) | (rw [if_neg e19, if_neg e40, if_neg e69, if_pos e92, decide_eq_true q99]; rfl) | (rw [if_neg e19, if_neg e40, if_neg e69, if_pos e92, decide_eq_false q103]; rfl) | (rw [if_neg e19, if_neg e40, if_neg e69, if_neg e92]; rfl))
    have q46f : z < h := Int.not_le.mp (fun q => h46 ((iI_le hh hz).mpr q))
    refine x_iload hC dX1_sticks_49 (q := 51) rfl rfl ?_
    refine x_bipush hC dX1_sticks_51 (q := 53) rfl (v := (6)) (by decide) ?_
    refine x_icmp_le hC dX1_sticks_53 (q := 56) rfl (tgt := 60) rfl (fun h53 => ?_) (fun h53 => ?_)
    · have q46 : ¬ (z < h ∧ 6 < aGr α c + aGr α d) := fun q => absurd ((nI_leI (b := 6) (by omega) (by decide)).mp h53) (by omega)
      refine x_iconst hC dX1_sticks_60 (q := 61) rfl (v := (0)) (by decide) ?_
      refine x_goto hC dX1_sticks_61 (tgt := 111) rfl ?_
      exact x_zret hC hr rfl dX1_sticks_111 (Nat.le_of_ble_eq_true rfl) (Nat.le_of_ble_eq_true rfl) (by refine ⟨?_, rfl⟩; unfold aSt; first | (rw [if_pos e19, decide_eq_true q24]; rfl) | (rw [if_pos e19, decide_eq_false q24]; rfl) | (rw [if_neg e19, if_pos e40, decide_eq_true q53]; rfl) | (rw [if_neg e19, if_pos e40, decide_eq_false q46]; rfl) | (rw [if_neg e19, if_neg e40, if_pos e69, decide_eq_true q76]; rfl) | (rw [if_neg e19, if_neg e40, if_pos e69, decide_eq_false q76]; rfl) | (rw [if_neg e19, if_neg e40, if_neg e69, if_pos e92, decide_eq_true q99]; rfl) | (rw [if_neg e19, if_neg e40, if_neg e69, if_pos e92, decide_eq_false q103]; rfl) | (rw [if_neg e19, if_neg e40, if_neg e69, if_neg e92]; rfl))
    have q53 : (z < h ∧ 6 < aGr α c + aGr α d) := ⟨q46f, Nat.not_le.mp (fun q => h53 (nI_le q (by decide)))⟩
    refine x_iconst hC dX1_sticks_56 (q := 57) rfl (v := (1)) (by decide) ?_
    refine x_goto hC dX1_sticks_57 (tgt := 111) rfl ?_
    exact x_zret hC hr rfl dX1_sticks_111 (Nat.le_of_ble_eq_true rfl) (Nat.le_of_ble_eq_true rfl) (by refine ⟨?_, rfl⟩; unfold aSt; first | (rw [if_pos e19, decide_eq_true q24]; rfl) | (rw [if_pos e19, decide_eq_false q24]; rfl) | (rw [if_neg e19, if_pos e40, decide_eq_true q53]; rfl) | (rw [if_neg e19, if_pos e40, decide_eq_false q46]; rfl) | (rw [if_neg e19, if_neg e40, if_pos e69, decide_eq_true q76]; rfl) | (rw [if_neg e19, if_neg e40, if_pos e69, decide_eq_false q76]; rfl) | (rw [if_neg e19, if_neg e40, if_neg e69, if_pos e92, decide_eq_true q99]; rfl) | (rw [if_neg e19, if_neg e40, if_neg e69, if_pos e92, decide_eq_false q103]; rfl) | (rw [if_neg e19, if_neg e40, if_neg e69, if_neg e92]; rfl))
  have e19 : aI α 4 = 1 := (ix_eq hb4 0 (by decide)).mp h19
  refine x_iload_n hC dX1_sticks_22 (q := 23) rfl rfl ?_
  refine x_iconst hC dX1_sticks_23 (q := 24) rfl (v := (5)) (by decide) ?_
  refine x_icmp_ge hC dX1_sticks_24 (q := 27) rfl (tgt := 31) rfl (fun h24 => ?_) (fun h24 => ?_)
  · have q24 : ¬ z < 5 := fun q => absurd ((iI_le (a := 5) ⟨by decide, by decide⟩ hz).mp h24) (by omega)
    refine x_iconst hC dX1_sticks_31 (q := 32) rfl (v := (0)) (by decide) ?_
    refine x_goto hC dX1_sticks_32 (tgt := 111) rfl ?_
    exact x_zret hC hr rfl dX1_sticks_111 (Nat.le_of_ble_eq_true rfl) (Nat.le_of_ble_eq_true rfl) (by refine ⟨?_, rfl⟩; unfold aSt; first | (rw [if_pos e19, decide_eq_true q24]; rfl) | (rw [if_pos e19, decide_eq_false q24]; rfl) | (rw [if_neg e19, if_pos e40, decide_eq_true q53]; rfl) | (rw [if_neg e19, if_pos e40, decide_eq_false q46]; rfl) | (rw [if_neg e19, if_neg e40, if_pos e69, decide_eq_true q76]; rfl) | (rw [if_neg e19, if_neg e40, if_pos e69, decide_eq_false q76]; rfl) | (rw [if_neg e19, if_neg e40, if_neg e69, if_pos e92, decide_eq_true q99]; rfl) | (rw [if_neg e19, if_neg e40, if_neg e69, if_pos e92, decide_eq_false q103]; rfl) | (rw [if_neg e19, if_neg e40, if_neg e69, if_neg e92]; rfl))
  have q24 : z < 5 := Int.not_le.mp (fun q => h24 ((iI_le (a := 5) ⟨by decide, by decide⟩ hz).mpr q))
  refine x_iconst hC dX1_sticks_27 (q := 28) rfl (v := (1)) (by decide) ?_
  refine x_goto hC dX1_sticks_28 (tgt := 111) rfl ?_
  exact x_zret hC hr rfl dX1_sticks_111 (Nat.le_of_ble_eq_true rfl) (Nat.le_of_ble_eq_true rfl) (by refine ⟨?_, rfl⟩; unfold aSt; first | (rw [if_pos e19, decide_eq_true q24]; rfl) | (rw [if_pos e19, decide_eq_false q24]; rfl) | (rw [if_neg e19, if_pos e40, decide_eq_true q53]; rfl) | (rw [if_neg e19, if_pos e40, decide_eq_false q46]; rfl) | (rw [if_neg e19, if_neg e40, if_pos e69, decide_eq_true q76]; rfl) | (rw [if_neg e19, if_neg e40, if_pos e69, decide_eq_false q76]; rfl) | (rw [if_neg e19, if_neg e40, if_neg e69, if_pos e92, decide_eq_true q99]; rfl) | (rw [if_neg e19, if_neg e40, if_neg e69, if_pos e92, decide_eq_false q103]; rfl) | (rw [if_neg e19, if_neg e40, if_neg e69, if_neg e92]; rfl))

theorem kmaxI {a b : Int} (ha : iB a) (hb : iB b) : (if iI a < iI b then iI b else iI a) = iI (max a b) := by
  by_cases h : a < b
  · rw [if_pos ((iI_lt ha hb).mpr h), Int.max_eq_right (by omega)]
  · rw [if_neg (fun q => h ((iI_lt ha hb).mp q)), Int.max_eq_left (by omega)]

set_option maxHeartbeats 4000000 in
set_option maxRecDepth 100000 in
theorem m_X1_burns {l : Launch} {s0 : State} {D : va_G} (h0 : x0 l s0 D) (g : xG) {aa : Nat} {α : aA} (hA : AH g aa α) (hok : aOk α) {k : Nat} {h f w : Int} (hk : k < aI α 1) (hh : -1000 < h ∧ h < 1000) (hw : iB w) : xMet l s0 D yX1_burns cX1_burns 5 (some .int) (xr 1 0 0 30) [.ref aa, .int (iI h), .int (nI k), .int (iI f), .int (iI w)] g (fun r1 g1 => r1 = some (.int (iI (aBu α h k f w))) ∧ g1 = g) := by
  obtain ⟨ca, ga, ra, hat, hac, hag, har⟩ := hA
  obtain ⟨hb0, hb1, hb2, hb3, hb4, hb5, hb6, hb7, hb8, hcl, hgr, hro⟩ := hok
  have hro1 := hro k
  refine xMet.of h0 (by decide +kernel) rfl ?_
  intro zp ze zs zm za zb zf zc hC hr hnm
  refine x_aloadr_n hC dX1_burns_0 (q := 1) rfl rfl ?_
  refine x_get hC xf_X1_54_0 dX1_burns_1 (q := 4) rfl (n := (101, 0)) hat rfl ?_
  refine x_if_ge hC dX1_burns_4 (q := 7) rfl (tgt := 11) rfl (fun h4 => ?_) (fun h4 => ?_)
  · have e4 : ¬ aI α 5 = 0 := (ix_lt hb5).mp h4
    refine x_aloadr_n hC dX1_burns_11 (q := 12) rfl rfl ?_
    refine x_get hC xf_X1_54_0 dX1_burns_12 (q := 15) rfl (n := (101, 0)) hat rfl ?_
    refine x_if_ne hC dX1_burns_15 (q := 18) rfl (tgt := 29) rfl (fun h15 => ?_) (fun h15 => ?_)
    · have e15 : ¬ aI α 5 = 1 := fun q => h15 ((ix_eq hb5 0 (by decide)).mpr q)
      refine x_aloadr_n hC dX1_burns_29 (q := 30) rfl rfl ?_
      refine x_get hC xf_X1_54_0 dX1_burns_30 (q := 33) rfl (n := (101, 0)) hat rfl ?_
      refine x_iconst hC dX1_burns_33 (q := 34) rfl (v := (1)) (by decide) ?_
      refine x_icmp_ne hC dX1_burns_34 (q := 37) rfl (tgt := 50) rfl (fun h34 => ?_) (fun h34 => ?_)
      · have e34 : ¬ aI α 5 = 2 := fun q => h34 ((ix_eq hb5 1 (by decide)).mpr q)
        refine x_aloadr_n hC dX1_burns_50 (q := 51) rfl rfl ?_
        refine x_get hC xf_X1_54_0 dX1_burns_51 (q := 54) rfl (n := (101, 0)) hat rfl ?_
        refine x_iconst hC dX1_burns_54 (q := 55) rfl (v := (2)) (by decide) ?_
        refine x_icmp_ne hC dX1_burns_55 (q := 58) rfl (tgt := 75) rfl (fun h55 => ?_) (fun h55 => ?_)
        · have e55 : ¬ aI α 5 = 3 := fun q => h55 ((ix_eq hb5 2 (by decide)).mpr q)
          refine x_iload_n hC dX1_burns_75 (q := 76) rfl rfl ?_
          refine x_bipush hC dX1_burns_76 (q := 78) rfl (v := (9)) (by decide) ?_
          refine x_icmp_le hC dX1_burns_78 (q := 81) rfl (tgt := 86) rfl (fun h78 => ?_) (fun h78 => ?_)
          · have q78 : ¬ 9 < h := fun q => absurd ((iI_le (b := 9) (by exact ⟨by omega, by omega⟩) ⟨by decide, by decide⟩).mp h78) (by omega)
            refine x_iconst hC dX1_burns_86 (q := 87) rfl (v := (5)) (by decide) ?_
            exact x_iret hC hr dX1_burns_87 (Nat.le_of_ble_eq_true rfl) (Nat.le_of_ble_eq_true rfl) (by refine ⟨?_, rfl⟩; unfold aBu; first | (rw [if_pos e4]; done) | (rw [if_neg e4, if_pos e15]; done) | (rw [if_neg e4, if_neg e15, if_pos e34]; rfl) | (rw [if_neg e4, if_neg e15, if_neg e34, if_pos e55]; done) | (rw [if_neg e4, if_neg e15, if_neg e34, if_neg e55, if_pos q78]; rfl) | (rw [if_neg e4, if_neg e15, if_neg e34, if_neg e55, if_neg q78]; rfl))
          have q78 : 9 < h := Int.not_le.mp (fun q => h78 ((iI_le (b := 9) (by exact ⟨by omega, by omega⟩) ⟨by decide, by decide⟩).mpr q))
          refine x_bipush hC dX1_burns_81 (q := 83) rfl (v := (40)) (by decide) ?_
          refine x_goto hC dX1_burns_83 (tgt := 87) rfl ?_
          exact x_iret hC hr dX1_burns_87 (Nat.le_of_ble_eq_true rfl) (Nat.le_of_ble_eq_true rfl) (by refine ⟨?_, rfl⟩; unfold aBu; first | (rw [if_pos e4]; done) | (rw [if_neg e4, if_pos e15]; done) | (rw [if_neg e4, if_neg e15, if_pos e34]; rfl) | (rw [if_neg e4, if_neg e15, if_neg e34, if_pos e55]; done) | (rw [if_neg e4, if_neg e15, if_neg e34, if_neg e55, if_pos q78]; rfl) | (rw [if_neg e4, if_neg e15, if_neg e34, if_neg e55, if_neg q78]; rfl))
        have e55 : aI α 5 = 3 := (ix_eq hb5 2 (by decide)).mp h55
        refine x_iconst hC dX1_burns_58 (q := 59) rfl (v := (0)) (by decide) ?_
        refine x_iconst hC dX1_burns_59 (q := 60) rfl (v := (2)) (by decide) ?_
        refine x_aloadr_n hC dX1_burns_60 (q := 61) rfl rfl ?_
        refine x_get hC xf_X1_16_0 dX1_burns_61 (q := 64) rfl (n := (101, 0)) hat rfl ?_
        refine x_iload_n hC dX1_burns_64 (q := 65) rfl rfl ?_
        refine x_iald hC dX1_burns_65 (q := 66) rfl (n := (104, 0)) har (j := k) rfl (by omega) (by decide) ?_
        refine x_imul hC dX1_burns_66 (q := 67) rfl ?_
        refine x_iload_n hC dX1_burns_67 (q := 68) rfl rfl ?_
        refine x_isub hC dX1_burns_68 (q := 69) rfl ?_
        rw [aF_lt hk, ← iI_nat (aRo α k), show (2 : Int32) = iI 2 from rfl, iI_mul, iI_sub]
        refine x_callS hC xv_X1_115 dX1_burns_69 (q := 72) rfl rfl (m_J0_max h0 g _ _) rfl (Nat.le_of_ble_eq_true rfl) ⟨(Nat.le_of_ble_eq_true rfl), (Nat.le_of_ble_eq_true rfl)⟩ ⟨(Nat.le_of_ble_eq_true rfl), (Nat.le_of_ble_eq_true rfl)⟩ (fun v g1 hp => ?_)
        rw [show (0 : Int32) = iI 0 from rfl, kmaxI ⟨by decide, by decide⟩ (show iB (2 * (aRo α k : Int) - h) from ⟨by omega, by omega⟩)] at hp
        obtain ⟨rfl, hg1⟩ := hp
        replace hg1 := hg1.symm
        subst hg1
        refine x_goto hC dX1_burns_72 (tgt := 87) rfl ?_
        exact x_iret hC hr dX1_burns_87 (Nat.le_of_ble_eq_true rfl) (Nat.le_of_ble_eq_true rfl) (by refine ⟨?_, rfl⟩; unfold aBu; first | (rw [if_pos e4]; done) | (rw [if_neg e4, if_pos e15]; done) | (rw [if_neg e4, if_neg e15, if_pos e34]; rfl) | (rw [if_neg e4, if_neg e15, if_neg e34, if_pos e55]; done) | (rw [if_neg e4, if_neg e15, if_neg e34, if_neg e55, if_pos q78]; rfl) | (rw [if_neg e4, if_neg e15, if_neg e34, if_neg e55, if_neg q78]; rfl))
      have e34 : aI α 5 = 2 := (ix_eq hb5 1 (by decide)).mp h34
      refine x_iload_n hC dX1_burns_37 (q := 38) rfl rfl ?_
      refine x_iconst hC dX1_burns_38 (q := 39) rfl (v := (3)) (by decide) ?_
      refine x_iload_n hC dX1_burns_39 (q := 40) rfl rfl ?_
      refine x_imul hC dX1_burns_40 (q := 41) rfl ?_
      refine x_iadd hC dX1_burns_41 (q := 42) rfl ?_
      refine x_iload hC dX1_burns_42 (q := 44) rfl rfl ?_
      refine x_iconst hC dX1_burns_44 (q := 45) rfl (v := (2)) (by decide) ?_
      refine x_irem hC dX1_burns_45 (q := 46) rfl (by decide) ?_
      refine x_iadd hC dX1_burns_46 (q := 47) rfl ?_
      rw [show (2 : Int32) = nI 2 from rfl, rem_iI hw (by decide) (by decide), show (3 : Int32) = iI 3 from rfl, iI_mul, iI_add, iI_add]
      refine x_goto hC dX1_burns_47 (tgt := 87) rfl ?_
      exact x_iret hC hr dX1_burns_87 (Nat.le_of_ble_eq_true rfl) (Nat.le_of_ble_eq_true rfl) (by refine ⟨?_, rfl⟩; unfold aBu; first | (rw [if_pos e4]; done) | (rw [if_neg e4, if_pos e15]; done) | (rw [if_neg e4, if_neg e15, if_pos e34]; rfl) | (rw [if_neg e4, if_neg e15, if_neg e34, if_pos e55]; done) | (rw [if_neg e4, if_neg e15, if_neg e34, if_neg e55, if_pos q78]; rfl) | (rw [if_neg e4, if_neg e15, if_neg e34, if_neg e55, if_neg q78]; rfl))
    have e15 : aI α 5 = 1 := (ix_eq hb5 0 (by decide)).mp h15
    refine x_iload_n hC dX1_burns_18 (q := 19) rfl rfl ?_
    refine x_aloadr_n hC dX1_burns_19 (q := 20) rfl rfl ?_
    refine x_get hC xf_X1_16_0 dX1_burns_20 (q := 23) rfl (n := (101, 0)) hat rfl ?_
    refine x_iload_n hC dX1_burns_23 (q := 24) rfl rfl ?_
    refine x_iald hC dX1_burns_24 (q := 25) rfl (n := (104, 0)) har (j := k) rfl (by omega) (by decide) ?_
    refine x_imul hC dX1_burns_25 (q := 26) rfl ?_
    rw [aF_lt hk, ← iI_nat (aRo α k), iI_mul]
    refine x_goto hC dX1_burns_26 (tgt := 87) rfl ?_
    exact x_iret hC hr dX1_burns_87 (Nat.le_of_ble_eq_true rfl) (Nat.le_of_ble_eq_true rfl) (by refine ⟨?_, rfl⟩; unfold aBu; first | (rw [if_pos e4]; done) | (rw [if_neg e4, if_pos e15]; done) | (rw [if_neg e4, if_neg e15, if_pos e34]; rfl) | (rw [if_neg e4, if_neg e15, if_neg e34, if_pos e55]; done) | (rw [if_neg e4, if_neg e15, if_neg e34, if_neg e55, if_pos q78]; rfl) | (rw [if_neg e4, if_neg e15, if_neg e34, if_neg e55, if_neg q78]; rfl))
  have e4 : aI α 5 = 0 := Classical.byContradiction (fun q => h4 ((ix_lt hb5).mpr q))
  refine x_iload_n hC dX1_burns_7 (q := 8) rfl rfl ?_
  refine x_goto hC dX1_burns_8 (tgt := 87) rfl ?_
  exact x_iret hC hr dX1_burns_87 (Nat.le_of_ble_eq_true rfl) (Nat.le_of_ble_eq_true rfl) (by refine ⟨?_, rfl⟩; unfold aBu; first | (rw [if_pos e4]; done) | (rw [if_neg e4, if_pos e15]; done) | (rw [if_neg e4, if_neg e15, if_pos e34]; rfl) | (rw [if_neg e4, if_neg e15, if_neg e34, if_pos e55]; done) | (rw [if_neg e4, if_neg e15, if_neg e34, if_neg e55, if_pos q78]; rfl) | (rw [if_neg e4, if_neg e15, if_neg e34, if_neg e55, if_neg q78]; rfl))
