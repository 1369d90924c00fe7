/-! what the class tells of a formula -/
theorem b01_2 (b : Bool) (h : ¬ b01 b = 0) : b01 b = 1 := by cases b; exact absurd rfl h; rfl

set_option maxHeartbeats 4000000 in
set_option maxRecDepth 100000 in
theorem m_X0_isTold {l : Launch} {s0 : State} {D : va_G} (h0 : x0 l s0 D) (σ : KS) (gF : xG) (f : aEnv) {aa : Nat} {α : aA} (hA : AH gF aa α) (hok : aOk α) (hw : KW σ) (hl : LT σ α) (hF : kF gF σ (aFo α)) {c hh p : Nat} (hc : c < aI α 0) (hhb : hh ≤ 20) (hp5 : p ≤ 5) : xMet l s0 D yX0_isTold cX0_isTold 7 (some .boolean) (xr 39 0 0 1620) [.ref (kA σ 0 0), .ref aa, .int (nI c), .int (nI hh), .int (nI p)] (kmix (kT σ f) gF) (fun r g1 => r = some (.int 1) ∧ ∃ f1, g1 = kmix (kT σ f1) gF) := by
  obtain ⟨ca, ga, ra, hat, hac, hag, har⟩ := id hA
  obtain ⟨hb0, hb1, hb2, hb3, hb4, hb5, hb6, hb7, hb8, hcl, hgr, hro⟩ := id hok
  refine xMet.of h0 (by decide +kernel) rfl ?_
  intro zp ze zs zm za zb zf zc hC hr hnm
  refine x_iload_n hC dX0_isTold_0 (q := 1) rfl rfl ?_
  refine x_istore hC dX0_isTold_1 (q := 3) rfl rfl ?_
  refine x_loop (S := (fun x : Nat × aEnv × Option Value => ((0 : Nat), (0 : Nat), kmix (kT σ x.2.1) gF, ([some (.ref (kA σ 0 0)), some (.ref aa), some (.int (nI c)), some (.int (nI hh)), some (.int (nI p)), some (.int (nI x.1)), x.2.2] : xL), ([] : List Value)))) (Inv := fun x => x.1 ≤ 30) (μ := fun x => 21 - x.1) ?_ (hh, f, none) (by dsimp only; omega)
  intro x hi ih
  obtain ⟨h, f1, y6⟩ := x
  dsimp only at hi ih ⊢
  refine x_iload hC dX0_isTold_3 (q := 5) rfl rfl ?_
  refine x_bipush hC dX0_isTold_5 (q := 7) rfl (v := (20)) (by decide) ?_
  refine x_icmp_gt hC dX0_isTold_7 (q := 10) rfl (tgt := 117) rfl (fun h7 => ?_) (fun h7 => ?_)
  · have hq0 := h7
    refine x_iconst hC dX0_isTold_117 (q := 118) rfl (v := (1)) (by decide) ?_
    exact x_zret hC hr rfl dX0_isTold_118 (Nat.le_of_ble_eq_true rfl) (Nat.le_of_ble_eq_true rfl) ⟨rfl, _, rfl⟩
  have hh1 : h ≤ 20 := Nat.not_lt.mp (fun w => h7 (nI_lt (a := 20) w (by omega)))
  refine x_aloadr_n hC dX0_isTold_10 (q := 11) rfl rfl ?_
  refine x_iload_n hC dX0_isTold_11 (q := 12) rfl rfl ?_
  refine x_iload hC dX0_isTold_12 (q := 14) rfl rfl ?_
  refine x_iload hC dX0_isTold_14 (q := 16) rfl rfl ?_
  refine x_callV hC xv_X0_97 dX0_isTold_16 (q := 19) rfl rfl (m_X2_rings h0 σ gF _ hF hw c (by rw [hl.1]; exact hc) (nI h) (nI p) ⟨by rw [nI_toInt (by omega)]; omega, by rw [nI_toInt (by omega)]; omega⟩ ⟨by rw [nI_toInt (by omega)]; omega, by rw [nI_toInt (by omega)]; omega⟩) (nn := (0, 0)) rfl rfl rfl (Nat.le_of_ble_eq_true rfl) ⟨(Nat.le_of_ble_eq_true rfl), (Nat.le_of_ble_eq_true rfl)⟩ ⟨(Nat.le_of_ble_eq_true rfl), (Nat.le_of_ble_eq_true rfl)⟩ (fun v g1 hp => ?_)
  obtain ⟨f2, rfl, hg1⟩ := hp
  subst hg1
  obtain ⟨z, hz1, hz2, hz3, hz4, hz5⟩ := aTemp hok hl hc (h := (h : Int)) (p := (p : Int)) ⟨by omega, by omega⟩ ⟨by omega, by omega⟩
  rw [show kTemp (aFo α) σ c (nI h) (nI p) = iI z from hz1]
  refine x_istore hC dX0_isTold_19 (q := 21) rfl rfl ?_
  refine x_iload hC dX0_isTold_21 (q := 23) rfl rfl ?_
  refine x_if_lt hC dX0_isTold_23 (q := 26) rfl (tgt := 76) rfl (fun h23 => ?_) (fun h23 => ?_)
  · exact absurd ((iI_lt (b := 0) ⟨by omega, by omega⟩ ⟨by decide, by decide⟩).mp h23) (by omega)
  refine x_iload hC dX0_isTold_26 (q := 28) rfl rfl ?_
  refine x_bipush hC dX0_isTold_28 (q := 30) rfl (v := (99)) (by decide) ?_
  refine x_icmp_gt hC dX0_isTold_30 (q := 33) rfl (tgt := 76) rfl (fun h30 => ?_) (fun h30 => ?_)
  · exact absurd ((iI_lt (a := 99) ⟨by decide, by decide⟩ ⟨by omega, by omega⟩).mp h30) (by omega)
  refine x_iload hC dX0_isTold_33 (q := 35) rfl rfl ?_
  refine x_aloadr_n hC dX0_isTold_35 (q := 36) rfl rfl ?_
  refine x_iload_n hC dX0_isTold_36 (q := 37) rfl rfl ?_
  refine x_iload hC dX0_isTold_37 (q := 39) rfl rfl ?_
  refine x_iload hC dX0_isTold_39 (q := 41) rfl rfl ?_
  refine x_iload hC dX0_isTold_41 (q := 43) rfl rfl ?_
  refine x_callV hC xv_X0_101 dX0_isTold_43 (q := 46) rfl rfl (m_X1_rings h0 _ (hA.km _) hok hc (h := h) (p := p) (by omega) (by omega) z) (nn := (101, 0)) ((kmix_F _ _ _ rfl).trans hat) rfl rfl (Nat.le_of_ble_eq_true rfl) ⟨(Nat.le_of_ble_eq_true rfl), (Nat.le_of_ble_eq_true rfl)⟩ ⟨(Nat.le_of_ble_eq_true rfl), (Nat.le_of_ble_eq_true rfl)⟩ (fun v g1 hp => ?_)
  rw [hz4] at hp
  obtain ⟨rfl, hg1⟩ := hp
  replace hg1 := hg1.symm
  subst hg1
  refine x_icmp_ne hC dX0_isTold_46 (q := 49) rfl (tgt := 76) rfl (fun h46 => ?_) (fun h46 => ?_)
  · exact absurd rfl h46
  refine x_aloadr_n hC dX0_isTold_49 (q := 50) rfl rfl ?_
  refine x_get hC xf_X0_103_0 dX0_isTold_50 (q := 53) rfl (n := (101, 0)) ((kmix_F _ _ _ rfl).trans hat) rfl ?_
  refine x_iconst hC dX0_isTold_53 (q := 54) rfl (v := (1)) (by decide) ?_
  refine x_icmp_eq hC dX0_isTold_54 (q := 57) rfl (tgt := 78) rfl (fun h54 => ?_) (fun h54 => ?_)
  · have h54x := h54
    refine x_aloadr_n hC dX0_isTold_78 (q := 79) rfl rfl ?_
    refine x_iload_n hC dX0_isTold_79 (q := 80) rfl rfl ?_
    refine x_iload hC dX0_isTold_80 (q := 82) rfl rfl ?_
    refine x_iload hC dX0_isTold_82 (q := 84) rfl rfl ?_
    refine x_callV hC xv_X0_106 dX0_isTold_84 (q := 87) rfl rfl (m_X2_cracks h0 σ gF _ hF hw c (by rw [hl.1]; exact hc) (nI h) (nI p) ⟨by rw [nI_toInt (by omega)]; omega, by rw [nI_toInt (by omega)]; omega⟩ ⟨by rw [nI_toInt (by omega)]; omega, by rw [nI_toInt (by omega)]; omega⟩) (nn := (0, 0)) rfl rfl rfl (Nat.le_of_ble_eq_true rfl) ⟨(Nat.le_of_ble_eq_true rfl), (Nat.le_of_ble_eq_true rfl)⟩ ⟨(Nat.le_of_ble_eq_true rfl), (Nat.le_of_ble_eq_true rfl)⟩ (fun v g1 hp => ?_)
    obtain ⟨f4, rfl, hg1⟩ := hp
    subst hg1
    rw [show (if kCrack (aFo α) σ c (nI h) (nI p) = 0 then (0 : Int32) else 1) = b01 (aCk α c z h p) from aCrk hok hl hc (h := (h : Int)) (p := (p : Int)) ⟨by omega, by omega⟩ ⟨by omega, by omega⟩ ⟨hz2, hz3⟩ hz1]
    refine x_aloadr_n hC dX0_isTold_87 (q := 88) rfl rfl ?_
    refine x_iload_n hC dX0_isTold_88 (q := 89) rfl rfl ?_
    refine x_iload hC dX0_isTold_89 (q := 91) rfl rfl ?_
    refine x_iload hC dX0_isTold_91 (q := 93) rfl rfl ?_
    refine x_iload hC dX0_isTold_93 (q := 95) rfl rfl ?_
    refine x_callV hC xv_X0_109 dX0_isTold_95 (q := 98) rfl rfl (m_X1_cracks h0 _ (hA.km _) hok hc (h := h) (p := p) (r := z) ⟨by omega, by omega⟩ (by omega) (by omega)) (nn := (101, 0)) ((kmix_F _ _ _ rfl).trans hat) rfl rfl (Nat.le_of_ble_eq_true rfl) ⟨(Nat.le_of_ble_eq_true rfl), (Nat.le_of_ble_eq_true rfl)⟩ ⟨(Nat.le_of_ble_eq_true rfl), (Nat.le_of_ble_eq_true rfl)⟩ (fun v g1 hp => ?_)
    obtain ⟨rfl, hg1⟩ := hp
    replace hg1 := hg1.symm
    subst hg1
    refine x_if_eq hC dX0_isTold_98 (q := 101) rfl (tgt := 105) rfl (fun h98 => ?_) (fun h98 => ?_)
    · have h98x := h98
      refine x_iconst hC dX0_isTold_105 (q := 106) rfl (v := (0)) (by decide) ?_
      refine x_icmp_eq hC dX0_isTold_106 (q := 109) rfl (tgt := 111) rfl (fun h106 => ?_) (fun h106 => ?_)
      · have h106x := h106
        refine x_iinc hC dX0_isTold_111 (q := 114) rfl rfl (v := nI (h + 3)) (by rw [show Int32.ofInt 3 = nI 3 from rfl, nI_add]) ?_
        refine x_goto hC dX0_isTold_114 (tgt := 3) rfl ?_
        exact ih (h + 3, _, _) (by (try dsimp only); omega) (by (try dsimp only); omega)
      · first | exact absurd h98 h106 | exact absurd h98y h106
    have h98y := b01_2 _ h98
    refine x_iconst hC dX0_isTold_101 (q := 102) rfl (v := (1)) (by decide) ?_
    refine x_goto hC dX0_isTold_102 (tgt := 106) rfl ?_
    refine x_icmp_eq hC dX0_isTold_106 (q := 109) rfl (tgt := 111) rfl (fun h106 => ?_) (fun h106 => ?_)
    · have h106x := h106
      refine x_iinc hC dX0_isTold_111 (q := 114) rfl rfl (v := nI (h + 3)) (by rw [show Int32.ofInt 3 = nI 3 from rfl, nI_add]) ?_
      refine x_goto hC dX0_isTold_114 (tgt := 3) rfl ?_
      exact ih (h + 3, _, _) (by (try dsimp only); omega) (by (try dsimp only); omega)
    · first | exact absurd h98 h106 | exact absurd h98y h106
  have ht2 : ¬ aI α 2 = 2 := fun w => h54 ((ix_eq hb2 1 (by decide)).mpr w)
  refine x_iload hC dX0_isTold_57 (q := 59) rfl rfl ?_
  refine x_aloadr_n hC dX0_isTold_59 (q := 60) rfl rfl ?_
  refine x_iload_n hC dX0_isTold_60 (q := 61) rfl rfl ?_
  refine x_iload hC dX0_isTold_61 (q := 63) rfl rfl ?_
  refine x_iload hC dX0_isTold_63 (q := 65) rfl rfl ?_
  refine x_iconst hC dX0_isTold_65 (q := 66) rfl (v := (1)) (by decide) ?_
  refine x_iadd hC dX0_isTold_66 (q := 67) rfl ?_
  refine x_bipush hC dX0_isTold_67 (q := 69) rfl (v := (6)) (by decide) ?_
  refine x_irem hC dX0_isTold_69 (q := 70) rfl (by decide) ?_
  rw [show nI p + 1 - (nI p + 1) / 6 * 6 = nI ((p + 1) % 6) from by rw [show nI p + 1 = nI (p + 1) from nI_add p 1, show (6 : Int32) = nI 6 from rfl, nI_mod (by omega) (by decide) (by decide)]]
  refine x_callV hC xv_X0_97 dX0_isTold_70 (q := 73) rfl rfl (m_X2_rings h0 σ gF _ hF hw c (by rw [hl.1]; exact hc) (nI h) (nI ((p + 1) % 6)) ⟨by rw [nI_toInt (by omega)]; omega, by rw [nI_toInt (by omega)]; omega⟩ ⟨by rw [nI_toInt (by omega)]; omega, by rw [nI_toInt (by omega)]; omega⟩) (nn := (0, 0)) rfl rfl rfl (Nat.le_of_ble_eq_true rfl) ⟨(Nat.le_of_ble_eq_true rfl), (Nat.le_of_ble_eq_true rfl)⟩ ⟨(Nat.le_of_ble_eq_true rfl), (Nat.le_of_ble_eq_true rfl)⟩ (fun v g1 hp => ?_)
  obtain ⟨f3, rfl, hg1⟩ := hp
  subst hg1
  rw [show kTemp (aFo α) σ c (nI h) (nI ((p + 1) % 6)) = iI z from hz5 ht2 _]
  refine x_icmp_eq hC dX0_isTold_73 (q := 76) rfl (tgt := 78) rfl (fun h73 => ?_) (fun h73 => ?_)
  · have h73x := h73
    refine x_aloadr_n hC dX0_isTold_78 (q := 79) rfl rfl ?_
    refine x_iload_n hC dX0_isTold_79 (q := 80) rfl rfl ?_
    refine x_iload hC dX0_isTold_80 (q := 82) rfl rfl ?_
    refine x_iload hC dX0_isTold_82 (q := 84) rfl rfl ?_
    refine x_callV hC xv_X0_106 dX0_isTold_84 (q := 87) rfl rfl (m_X2_cracks h0 σ gF _ hF hw c (by rw [hl.1]; exact hc) (nI h) (nI p) ⟨by rw [nI_toInt (by omega)]; omega, by rw [nI_toInt (by omega)]; omega⟩ ⟨by rw [nI_toInt (by omega)]; omega, by rw [nI_toInt (by omega)]; omega⟩) (nn := (0, 0)) rfl rfl rfl (Nat.le_of_ble_eq_true rfl) ⟨(Nat.le_of_ble_eq_true rfl), (Nat.le_of_ble_eq_true rfl)⟩ ⟨(Nat.le_of_ble_eq_true rfl), (Nat.le_of_ble_eq_true rfl)⟩ (fun v g1 hp => ?_)
    obtain ⟨f4, rfl, hg1⟩ := hp
    subst hg1
    rw [show (if kCrack (aFo α) σ c (nI h) (nI p) = 0 then (0 : Int32) else 1) = b01 (aCk α c z h p) from aCrk hok hl hc (h := (h : Int)) (p := (p : Int)) ⟨by omega, by omega⟩ ⟨by omega, by omega⟩ ⟨hz2, hz3⟩ hz1]
    refine x_aloadr_n hC dX0_isTold_87 (q := 88) rfl rfl ?_
    refine x_iload_n hC dX0_isTold_88 (q := 89) rfl rfl ?_
    refine x_iload hC dX0_isTold_89 (q := 91) rfl rfl ?_
    refine x_iload hC dX0_isTold_91 (q := 93) rfl rfl ?_
    refine x_iload hC dX0_isTold_93 (q := 95) rfl rfl ?_
    refine x_callV hC xv_X0_109 dX0_isTold_95 (q := 98) rfl rfl (m_X1_cracks h0 _ (hA.km _) hok hc (h := h) (p := p) (r := z) ⟨by omega, by omega⟩ (by omega) (by omega)) (nn := (101, 0)) ((kmix_F _ _ _ rfl).trans hat) rfl rfl (Nat.le_of_ble_eq_true rfl) ⟨(Nat.le_of_ble_eq_true rfl), (Nat.le_of_ble_eq_true rfl)⟩ ⟨(Nat.le_of_ble_eq_true rfl), (Nat.le_of_ble_eq_true rfl)⟩ (fun v g1 hp => ?_)
    obtain ⟨rfl, hg1⟩ := hp
    replace hg1 := hg1.symm
    subst hg1
    refine x_if_eq hC dX0_isTold_98 (q := 101) rfl (tgt := 105) rfl (fun h98 => ?_) (fun h98 => ?_)
    · have h98x := h98
      refine x_iconst hC dX0_isTold_105 (q := 106) rfl (v := (0)) (by decide) ?_
      refine x_icmp_eq hC dX0_isTold_106 (q := 109) rfl (tgt := 111) rfl (fun h106 => ?_) (fun h106 => ?_)
      · have h106x := h106
        refine x_iinc hC dX0_isTold_111 (q := 114) rfl rfl (v := nI (h + 3)) (by rw [show Int32.ofInt 3 = nI 3 from rfl, nI_add]) ?_
        refine x_goto hC dX0_isTold_114 (tgt := 3) rfl ?_
        exact ih (h + 3, _, _) (by (try dsimp only); omega) (by (try dsimp only); omega)
      · first | exact absurd h98 h106 | exact absurd h98y h106
    have h98y := b01_2 _ h98
    refine x_iconst hC dX0_isTold_101 (q := 102) rfl (v := (1)) (by decide) ?_
    refine x_goto hC dX0_isTold_102 (tgt := 106) rfl ?_
    refine x_icmp_eq hC dX0_isTold_106 (q := 109) rfl (tgt := 111) rfl (fun h106 => ?_) (fun h106 => ?_)
    · have h106x := h106
      refine x_iinc hC dX0_isTold_111 (q := 114) rfl rfl (v := nI (h + 3)) (by rw [show Int32.ofInt 3 = nI 3 from rfl, nI_add]) ?_
      refine x_goto hC dX0_isTold_114 (tgt := 3) rfl ?_
      exact ih (h + 3, _, _) (by (try dsimp only); omega) (by (try dsimp only); omega)
    · first | exact absurd h98 h106 | exact absurd h98y h106
  · exact absurd rfl h73
