/-! someWeeks, the walk -/
theorem LSt.i5 {gF : xG} {α : aA} {d0 : Nat} {σ : KS} (h : LSt gF α d0 σ) (y : Int) (f : aEnv) : LSt gF α d0 (kT (kIs σ 5 0 y) f) := h
theorem Bk.i5 (σ : KS) (y : Int) (f : aEnv) : Bk σ (kT (kIs σ 5 0 y) f) := ⟨⟨fun f' k q => (kEy_is σ (f := 5) rfl 0 y).1 f' k q, rfl, rfl, rfl, rfl⟩, rfl, fun _ _ => rfl, fun _ _ => rfl, rfl, rfl, rfl, rfl, rfl⟩

set_option maxHeartbeats 4000000 in
set_option maxRecDepth 100000 in
theorem m_X0_someWeeks {l : Launch} {s0 : State} {D : va_G} (h0 : x0 l s0 D) (σ : KS) (gF : xG) (f : aEnv) {ad aa d0 wk n : Nat} {α : aA} {I : Nat → Int32} {V : Nat → Nat → Int32} {M : Nat → Nat → Nat → Int32} (hD : DW gF ad I V M) (hA : AH gF aa α) (hok : aOk α) (hL : LSt gF α d0 σ) (hFo : KFo s0 gF d0) (hL0 : gF (2000, 0) = none) (hAF : AF α σ I V M) (h141 : gF (141, 0) = none) (hwk0 : 0 ≤ kI σ 3 0 ∧ kI σ 3 0 ≤ 890) (hwkn : kI σ 3 0 = wk) (hn5 : 1 ≤ n ∧ n ≤ 5)  : xMet l s0 D yX0_someWeeks cX0_someWeeks 12 (some .boolean) (xr 56 3100 19700 3200) [.ref (kA σ 0 0), .ref aa, .ref ad, .int (nI n)] (kmix (kT σ f) gF) (fun r g1 => ∃ ρ, r = some (.int 1) ∧ AR gF α d0 σ ρ ∧ g1 = kmix ρ gF) := by
  have hDx : ∀ x, DW (xu gF (141, 0) x) ad I V M := fun x => hD.ext (fun n h1 h2 => xu_ne (fun w => by rw [w] at h2; dsimp only at h2; omega))
  have hAx : ∀ x, AH (xu gF (141, 0) x) aa α := fun x => hA.ext (fun n h1 h2 => xu_ne (fun w => by rw [w] at h2; dsimp only at h2; omega))
  obtain ⟨ra, rr, hd0', hd3', hd6', -, -, -, -, -, -⟩ := id hD
  obtain ⟨ca, ga, rm, hat', -, -, -⟩ := id hA
  have hd0 : ∀ (τ : KS) x, kmix τ (xu gF (141, 0) x) (120, 0) = _ := fun τ x => (kmix_F _ _ _ rfl).trans ((xu_ne (n_fst rfl)).trans hd0')
  have hd3 : ∀ (τ : KS) x k, 5 ≤ k → k < 10 → kmix τ (xu gF (141, 0) x) (116 + k, 0) = some (ra k, xAi .int 3 (V k)) := fun τ x k a b => (kmix_F _ _ _ (bf40 (by dsimp only; omega))).trans ((xu_ne (fun w => by injection w with w1 w2; omega)).trans (hd3' k a b))
  have hd6 : ∀ (τ : KS) x k, 10 ≤ k → k < 15 → kmix τ (xu gF (141, 0) x) (116 + k, 0) = some (ra k, xAi .int 6 (V k)) := fun τ x k a b => (kmix_F _ _ _ (bf40 (by dsimp only; omega))).trans ((xu_ne (fun w => by injection w with w1 w2; omega)).trans (hd6' k a b))
  have hat : ∀ (τ : KS) x, kmix τ (xu gF (141, 0) x) (101, 0) = _ := fun τ x => (kmix_F _ _ _ rfl).trans ((xu_ne (n_fst rfl)).trans hat')
  have hGx : ∀ x, KSt (xu gF (141, 0) x) (aFo α) d0 σ := fun x => hL.1.xu h141 x
  have hFx : ∀ x, KFo s0 (xu gF (141, 0) x) d0 := fun x => hFo.xu (by decide) x
  have hLx : ∀ x, (xu gF (141, 0) x) (2000, 0) = none := fun x => (xu_ne (n_fst rfl)).trans hL0
  have hb0 := hok.1
  have hb1 := hok.2.1
  have hp := hL.1.2.2.1
  have hw := hL.1.2.1.1
  have hw1 := hw.1
  have hw3 := hw.2.1
  have h637 : kA σ 63 0 ≤ 7 := hL.1.2.2.2.2.2.2.2.1
  have hK : kA σ 62 0 = aI α 1 := hL.2.1.2.1
  have hn61 : kA σ 61 0 = aI α 0 := hL.2.1.1
  have hm01 : ∀ q, q < aI α 1 → mN (aFo α) σ n q = 0 ∨ mN (aFo α) σ n q = 1 := fun q hq => by
    have := mN_y (F := aFo α) (n := n) hp hw1 hw3 (q := q) (by rw [hK]; exact hq)
    by_cases hx : ∃ j, j < n ∧ fw (aFo α) σ j q
    · exact Or.inr (this.1 hx)
    · exact Or.inl (this.2 hx)
  have hmx : ∀ q, q < aI α 1 → (mN (aFo α) σ n q = 1 ↔ 0 ≤ V 9 q ∧ V 9 q < nI n) := fun q hq => by
    have a := mN_y (F := aFo α) (n := n) hp hw1 hw3 (q := q) (by rw [hK]; exact hq)
    have b := (kFnd_n hp hw1 hw3 (by rw [hK]; exact hq) (hAF.2.2.1 q hq).2.2.2.2 (show n ≤ 40 by omega)).1
    rw [b]
    exact ⟨fun e => Classical.byContradiction (fun w => by rw [a.2 w] at e; cases e), fun e => a.1 e⟩
  have hms : sm (mN (aFo α) σ n) (aI α 1) ≤ aI α 1 := by
    have h1 := sm_le (n := aI α 1) (f := mN (aFo α) σ n) (g := fun _ => 1) (fun j hj => by rcases hm01 j hj with e | e <;> rw [e] <;> decide)
    have e1 : ∀ k, sm (fun _ => 1) k = k := fun k => by
      induction k with
      | zero => rfl
      | succ k ih => show sm (fun _ => 1) k + 1 = k + 1; rw [ih]
    rw [e1] at h1
    exact h1
  refine xMet.of h0 (by decide +kernel) rfl ?_
  intro zp ze zs zm za zb zf zc hC hr hnm
  refine x_bipush hC dX0_someWeeks_0 (q := 2) rfl (v := (6)) (by decide) ?_
  refine x_newa hC (at0 := .int) (N := 6) (x := (6, .inl (fun _ => 0))) (141, 0) q159 dX0_someWeeks_2 (q := 4) rfl rfl ((kmix_F _ _ _ rfl).trans h141) rfl (by decide) (fun _ => rfl) (Nat.le_of_ble_eq_true rfl) (Nat.le_of_ble_eq_true rfl) (fun a_2 => ?_)
  refine x_geq (g' := kmix (kT σ f) (xu gF (141, 0) (some (a_2, xAi .int 6 (fun _ => 0))))) (kmix_xuF _ _ _ _ rfl) ?_
  refine x_astorer hC dX0_someWeeks_4 (q := 6) rfl rfl ?_
  refine x_aloadr_n hC dX0_someWeeks_6 (q := 7) rfl rfl ?_
  refine x_iload_n hC dX0_someWeeks_7 (q := 8) rfl rfl ?_
  refine x_callV hC xv_X0_263 dX0_someWeeks_8 (q := 11) rfl rfl ((m_X2_fuel h0 σ (xu gF (141, 0) (some (a_2, xAi .int 6 (fun _ => 0)))) f (hGx _) (hFx _) n (by omega) ⟨hwk0.1, by omega⟩ (hLx _)).room (rm' := xr 54 334 2104 3100) (Nat.le_refl _) (show 4 + 66 * n ≤ 334 by omega) (show 49 + 411 * n ≤ 2104 by omega) (Nat.le_refl _)) (nn := (0, 0)) rfl rfl rfl (Nat.le_of_ble_eq_true rfl) ⟨(by (try dsimp only); omega), (by (try dsimp only); omega)⟩ ⟨(by (try dsimp only); omega), (by (try dsimp only); omega)⟩ (fun v g1 hp => ?_)
  obtain ⟨f2, y2, rfl, hg1⟩ := hp
  subst hg1
  refine x_istore hC dX0_someWeeks_11 (q := 13) rfl rfl ?_
  refine x_iconst hC dX0_someWeeks_13 (q := 14) rfl (v := (0)) (by decide) ?_
  refine x_istore hC dX0_someWeeks_14 (q := 16) rfl rfl ?_
  refine x_iconst hC dX0_someWeeks_16 (q := 17) rfl (v := (0)) (by decide) ?_
  refine x_istore hC dX0_someWeeks_17 (q := 19) rfl rfl ?_
  refine x_loop (S := (fun x : Nat => ((335 : Nat), (2110 : Nat), kmix (kT (kIs σ 5 0 y2) f2) (xu gF (141, 0) (some (a_2, xAi .int 6 (fun _ => 0)))), ([some (.ref (kA σ 0 0)), some (.ref aa), some (.ref ad), some (.int (nI n)), some (.ref a_2), some (.int (iI (kI (kGs (aFo α) (kIs σ 4 0 1) n) 7 0))), some (.int (nI (sm (mN (aFo α) σ n) x))), some (.int (nI x)), none, none, none, none] : xL), ([] : List Value)))) (Inv := fun x => x ≤ aI α 1) (μ := fun x => aI α 1 - x) ?_ 0 (Nat.zero_le _)
  intro q hi ih
  dsimp only at hi ih ⊢
  refine x_iload hC dX0_someWeeks_19 (q := 21) rfl rfl ?_
  refine x_aloadr_n hC dX0_someWeeks_21 (q := 22) rfl rfl ?_
  refine x_get hC xf_X0_54_0 dX0_someWeeks_22 (q := 25) rfl (n := (101, 0)) (hat _ _) rfl ?_
  refine x_icmp_ge hC dX0_someWeeks_25 (q := 28) rfl (tgt := 65) rfl (fun h25 => ?_) (fun h25 => ?_)
  · have hq1 : q = aI α 1 := by
      have := (nI_leI (a := aI α 1) (b := q) (by omega) (by omega)).mp h25
      omega
    subst hq1
    refine x_iconst hC dX0_someWeeks_65 (q := 66) rfl (v := (0)) (by decide) ?_
    refine x_istore hC dX0_someWeeks_66 (q := 68) rfl rfl ?_
    refine x_loop (S := (fun x : Nat × aEnv × Int × (Nat → Int32) => (335 + 334 * x.1, 2110 + 2104 * x.1, kmix (kT (kIs σ 5 0 x.2.2.1) x.2.1) (xu gF (141, 0) (some (a_2, xAi .int 6 x.2.2.2))), ([some (.ref (kA σ 0 0)), some (.ref aa), some (.ref ad), some (.int (nI n)), some (.ref a_2), some (.int (iI (kI (kGs (aFo α) (kIs σ 4 0 1) n) 7 0))), some (.int (nI (sm (mN (aFo α) σ n) (aI α 1)))), some (.int (nI x.1)), none, none, none, none] : xL), ([] : List Value)))) (Inv := fun x => x.1 ≤ aI α 0 ∧ ∀ d, d < x.1 → x.2.2.2 d = iI (kI (kGs (aFo α) (kIs σ 4 0 1) n) 34 d)) (μ := fun x => aI α 0 - x.1) ?_ (0, f2, y2, fun _ => 0) ⟨Nat.zero_le _, fun d hd => absurd hd (Nat.not_lt_zero d)⟩
    intro x hj ih2
    obtain ⟨c, f3, y3, fl⟩ := x
    obtain ⟨hj, hfl⟩ := hj
    dsimp only at hj hfl ih2 ⊢
    refine x_iload hC dX0_someWeeks_68 (q := 70) rfl rfl ?_
    refine x_aloadr_n hC dX0_someWeeks_70 (q := 71) rfl rfl ?_
    refine x_get hC xf_X0_60_0 dX0_someWeeks_71 (q := 74) rfl (n := (101, 0)) (hat _ _) rfl ?_
    refine x_icmp_ge hC dX0_someWeeks_74 (q := 77) rfl (tgt := 95) rfl (fun h74 => ?_) (fun h74 => ?_)
    · have hc1 : c = aI α 0 := by
        have := (nI_leI (a := aI α 0) (b := c) (by omega) (by omega)).mp h74
        omega
      subst hc1
      refine x_iconst hC dX0_someWeeks_95 (q := 96) rfl (v := (0)) (by decide) ?_
      refine x_istore hC dX0_someWeeks_96 (q := 98) rfl rfl ?_
      refine x_loop (S := (fun x : Nat × KS × Option Value × Option Value × Option Value × Option Value => (335 + 334 * aI α 0 + 360 * x.1, 2110 + 2104 * aI α 0 + 2400 * x.1, kmix x.2.1 (xu gF (141, 0) (some (a_2, xAi .int 6 fl))), ([some (.ref (kA x.2.1 0 0)), some (.ref aa), some (.ref ad), some (.int (nI n)), some (.ref a_2), some (.int (iI (kI (kGs (aFo α) (kIs σ 4 0 1) n) 7 0))), some (.int (nI (sm (mN (aFo α) σ n) (aI α 1)))), some (.int (nI x.1)), x.2.2.1, x.2.2.2.1, x.2.2.2.2.1, x.2.2.2.2.2] : xL), ([] : List Value)))) (Inv := fun x => x.1 ≤ 2 ∧ (x.1 < 2 → LSt gF α d0 x.2.1 ∧ KSt (xu gF (141, 0) (some (a_2, xAi .int 6 fl))) (aFo α) d0 x.2.1 ∧ Bk σ x.2.1) ∧ (x.1 = 2 → AR gF α d0 σ x.2.1)) (μ := fun x => 2 - x.1) ?_ (0, kT (kIs σ 5 0 y3) f3, none, none, none, none) ⟨Nat.zero_le _, fun _ => ⟨hL.i5 y3 f3, (hGx _).i5 y3, Bk.i5 σ y3 f3⟩, fun w => absurd w (show ¬ (0 : Nat) = 2 by decide)⟩
      intro x hi ih
      obtain ⟨t, τ, u8, u9, u10, u11⟩ := x
      obtain ⟨hi, hlt, hend⟩ := hi
      dsimp only at hi hlt hend ih ⊢
      refine x_iload hC dX0_someWeeks_98 (q := 100) rfl rfl ?_
      refine x_iconst hC dX0_someWeeks_100 (q := 101) rfl (v := (2)) (by decide) ?_
      refine x_icmp_ge hC dX0_someWeeks_101 (q := 104) rfl (tgt := 446) rfl (fun h101 => ?_) (fun h101 => ?_)
      · have ht2 : t = 2 := by
          have := (nI_leI (a := 2) (b := t) (by decide) (by omega)).mp h101
          omega
        refine x_iconst hC dX0_someWeeks_446 (q := 447) rfl (v := (1)) (by decide) ?_
        refine x_sub (g' := kmix τ gF) (kmix_sub1 h141 rfl) ?_
        exact x_zret hC hr rfl dX0_someWeeks_447 (by (try dsimp only); omega) (by (try dsimp only); omega) ⟨τ, rfl, hend ht2, rfl⟩
      have ht2 : t < 2 := Nat.not_le.mp (fun w => h101 (nI_le (a := 2) w (by omega)))
      obtain ⟨hLt, hGt, hB⟩ := hlt ht2
      have hwk2 : 0 ≤ kI τ 3 0 ∧ kI τ 3 0 ≤ 890 := by rw [hB.1.1 3 0 rfl]; exact hwk0
      refine x_geq (g' := kmix (kT τ (kL τ 0)) (xu gF (141, 0) (some (a_2, xAi .int 6 fl)))) (by rw [kT_self]) ?_
      refine x_aloadr_n hC dX0_someWeeks_104 (q := 105) rfl rfl ?_
      refine x_iload_n hC dX0_someWeeks_105 (q := 106) rfl rfl ?_
      refine x_callV hC xv_X0_237 dX0_someWeeks_106 (q := 109) rfl rfl (m_weeks_f h0 τ gF (xu gF (141, 0) (some (a_2, xAi .int 6 fl))) (kL τ 0) hok hLt hGt (hFx _) hwk2 hn5) (nn := (0, 0)) rfl rfl rfl (Nat.le_of_ble_eq_true rfl) ⟨(by (try dsimp only); omega), (by (try dsimp only); omega)⟩ ⟨(by (try dsimp only); omega), (by (try dsimp only); omega)⟩ (fun v g1 hp => ?_)
      obtain ⟨ρ, rfl, hW, hg1⟩ := hp
      subst hg1
      have hAR : AR gF α d0 τ ρ := by
        obtain ⟨-, -, -, -, -, h⟩ := id hW
        exact h
      obtain ⟨s1, s2, s3, s4, ⟨fr, s5⟩, s6, s7, hwr, s9, s10⟩ := hW.sw (show n ≤ 40 by omega) hwkn hL hAF hB
      rw [show kA τ 0 0 = kA ρ 0 0 from hAR.2.1.symm, show sm (mN (aFo α) τ n) (kA τ 62 0) = (sm (mN (aFo α) σ n) (aI α 1)) from by rw [hB.1.2.2.2.2, hK]; exact mN_bk hB.1 hp hLt.1.2.2.1 hw1 hw3 n hK.symm]
      refine x_iload hC dX0_someWeeks_109 (q := 111) rfl rfl ?_
      refine x_icmp_ne hC dX0_someWeeks_111 (q := 114) rfl (tgt := 162) rfl (fun h111 => ?_) (fun h111 => ?_)
      · exact absurd rfl h111
      refine x_aloadr_n hC dX0_someWeeks_114 (q := 115) rfl rfl ?_
      refine x_iconst hC dX0_someWeeks_115 (q := 116) rfl (v := (3)) (by decide) ?_
      refine x_callV hC xv_X0_73 dX0_someWeeks_116 (q := 119) rfl rfl (m_X2_has_3 h0 ρ (xu gF (141, 0) (some (a_2, xAi .int 6 fl)))) (nn := (0, 0)) rfl rfl rfl (Nat.le_of_ble_eq_true rfl) ⟨(by (try dsimp only); omega), (by (try dsimp only); omega)⟩ ⟨(by (try dsimp only); omega), (by (try dsimp only); omega)⟩ (fun v g1 hp => ?_)
      rw [s1] at hp
      obtain ⟨rfl, hg1⟩ := hp
      replace hg1 := hg1.symm
      subst hg1
      refine x_iload hC dX0_someWeeks_119 (q := 121) rfl rfl ?_
      refine x_icmp_ne hC dX0_someWeeks_121 (q := 124) rfl (tgt := 162) rfl (fun h121 => ?_) (fun h121 => ?_)
      · exact absurd rfl h121
      refine x_aloadr_n hC dX0_someWeeks_124 (q := 125) rfl rfl ?_
      refine x_iconst hC dX0_someWeeks_125 (q := 126) rfl (v := (2)) (by decide) ?_
      refine x_callV hC xv_X0_73 dX0_someWeeks_126 (q := 129) rfl rfl (m_X2_has_2 h0 ρ (xu gF (141, 0) (some (a_2, xAi .int 6 fl)))) (nn := (0, 0)) rfl rfl rfl (Nat.le_of_ble_eq_true rfl) ⟨(by (try dsimp only); omega), (by (try dsimp only); omega)⟩ ⟨(by (try dsimp only); omega), (by (try dsimp only); omega)⟩ (fun v g1 hp => ?_)
      rw [s2] at hp
      obtain ⟨rfl, hg1⟩ := hp
      replace hg1 := hg1.symm
      subst hg1
      refine x_aloadr_n hC dX0_someWeeks_129 (q := 130) rfl rfl ?_
      refine x_get hC xf_X0_207_16 dX0_someWeeks_130 (q := 133) rfl (n := (120, 0)) (hd0 _ _) rfl ?_
      refine x_iload_n hC dX0_someWeeks_133 (q := 134) rfl rfl ?_
      refine x_iadd hC dX0_someWeeks_134 (q := 135) rfl ?_
      refine x_icmp_ne hC dX0_someWeeks_135 (q := 138) rfl (tgt := 162) rfl (fun h135 => ?_) (fun h135 => ?_)
      · exact absurd rfl h135
      refine x_aloadr_n hC dX0_someWeeks_138 (q := 139) rfl rfl ?_
      refine x_bipush hC dX0_someWeeks_139 (q := 141) rfl (v := (8)) (by decide) ?_
      refine x_callV hC xv_X0_73 dX0_someWeeks_141 (q := 144) rfl rfl (m_X2_has_8 h0 ρ (xu gF (141, 0) (some (a_2, xAi .int 6 fl)))) (nn := (0, 0)) rfl rfl rfl (Nat.le_of_ble_eq_true rfl) ⟨(by (try dsimp only); omega), (by (try dsimp only); omega)⟩ ⟨(by (try dsimp only); omega), (by (try dsimp only); omega)⟩ (fun v g1 hp => ?_)
      rw [s3] at hp
      obtain ⟨rfl, hg1⟩ := hp
      replace hg1 := hg1.symm
      subst hg1
      refine x_aloadr_n hC dX0_someWeeks_144 (q := 145) rfl rfl ?_
      refine x_get hC xf_X0_199_16 dX0_someWeeks_145 (q := 148) rfl (n := (120, 0)) (hd0 _ _) rfl ?_
      refine x_iload hC dX0_someWeeks_148 (q := 150) rfl rfl ?_
      refine x_iadd hC dX0_someWeeks_150 (q := 151) rfl ?_
      rw [hAF.1.2.1, nI_add]
      refine x_icmp_ne hC dX0_someWeeks_151 (q := 154) rfl (tgt := 162) rfl (fun h151 => ?_) (fun h151 => ?_)
      · exact absurd rfl h151
      refine x_aloadr_n hC dX0_someWeeks_154 (q := 155) rfl rfl ?_
      refine x_aloadr_n hC dX0_someWeeks_155 (q := 156) rfl rfl ?_
      refine x_callV hC xv_X0_221 dX0_someWeeks_156 (q := 159) rfl rfl (m_X19_areElder h0 ρ (xu gF (141, 0) (some (a_2, xAi .int 6 fl))) (hDx _) hwr (R := kA σ 63 0) (by rw [s3]; omega) (by omega) hAF.1.2.1 (fun k hk j hj => by rw [s4 k hk]; exact hAF.2.1 k hk j hj)) (nn := (120, 0)) (hd0 _ _) rfl rfl (Nat.le_of_ble_eq_true rfl) ⟨(by (try dsimp only); omega), (by (try dsimp only); omega)⟩ ⟨(by (try dsimp only); omega), (by (try dsimp only); omega)⟩ (fun v g1 hp => ?_)
      obtain ⟨rfl, hg1⟩ := hp
      replace hg1 := hg1.symm
      subst hg1
      refine x_if_ne hC dX0_someWeeks_159 (q := 162) rfl (tgt := 164) rfl (fun h159 => ?_) (fun h159 => ?_)
      · have hx159 := h159
        refine x_iconst hC dX0_someWeeks_164 (q := 165) rfl (v := (-1)) (by decide) ?_
        refine x_istore hC dX0_someWeeks_165 (q := 167) rfl rfl ?_
        refine x_aloadr_n hC dX0_someWeeks_167 (q := 168) rfl rfl ?_
        refine x_get hC xf_X0_199_16 dX0_someWeeks_168 (q := 171) rfl (n := (120, 0)) (hd0 _ _) rfl ?_
        rw [hAF.1.2.1]
        refine x_istore hC dX0_someWeeks_171 (q := 173) rfl rfl ?_
        refine x_loop (S := (fun x : Nat × Int32 × Option Value × Option Value => (335 + 334 * aI α 0 + 360 * (t + 1), 2110 + 2104 * aI α 0 + 2400 * (t + 1), kmix ρ (xu gF (141, 0) (some (a_2, xAi .int 6 fl))), ([some (.ref (kA ρ 0 0)), some (.ref aa), some (.ref ad), some (.int (nI n)), some (.ref a_2), some (.int (iI (kI (kGs (aFo α) (kIs σ 4 0 1) n) 7 0))), some (.int (nI (sm (mN (aFo α) σ n) (aI α 1)))), some (.int (nI t)), some (.int x.2.1), some (.int (nI (kA σ 63 0 + x.1))), x.2.2.1, x.2.2.2] : xL), ([] : List Value)))) (Inv := fun x => x.1 ≤ (sm (mN (aFo α) σ n) (aI α 1)) ∧ (x.1 = 0 ∧ x.2.1 = -1 ∨ 0 < x.1 ∧ x.2.1 = nI (3 * (wk + (fr (x.1 - 1)).1) + (fr (x.1 - 1)).2))) (μ := fun x => (sm (mN (aFo α) σ n) (aI α 1)) - x.1) ?_ (0, -1, _, _) ⟨Nat.zero_le _, Or.inl ⟨rfl, rfl⟩⟩
        intro x hj ih3
        obtain ⟨i, b8, u10, u11⟩ := x
        obtain ⟨hj, hb8⟩ := hj
        dsimp only at hj hb8 ih3 ⊢
        refine x_iload hC dX0_someWeeks_173 (q := 175) rfl rfl ?_
        refine x_aloadr_n hC dX0_someWeeks_175 (q := 176) rfl rfl ?_
        refine x_get hC xf_X0_199_16 dX0_someWeeks_176 (q := 179) rfl (n := (120, 0)) (hd0 _ _) rfl ?_
        refine x_iload hC dX0_someWeeks_179 (q := 181) rfl rfl ?_
        refine x_iadd hC dX0_someWeeks_181 (q := 182) rfl ?_
        rw [hAF.1.2.1, nI_add]
        refine x_icmp_ge hC dX0_someWeeks_182 (q := 185) rfl (tgt := 280) rfl (fun h182 => ?_) (fun h182 => ?_)
        · have hi1 : i = (sm (mN (aFo α) σ n) (aI α 1)) := by
            have := (nI_leI (a := kA σ 63 0 + (sm (mN (aFo α) σ n) (aI α 1))) (b := kA σ 63 0 + i) (by omega) (by omega)).mp h182
            omega
          refine x_iconst hC dX0_someWeeks_280 (q := 281) rfl (v := (0)) (by decide) ?_
          refine x_istore hC dX0_someWeeks_281 (q := 283) rfl rfl ?_
          refine x_loop (S := (fun x : Nat × Option Value => (335 + 334 * aI α 0 + 360 * (t + 1), 2110 + 2104 * aI α 0 + 2400 * (t + 1), kmix ρ (xu gF (141, 0) (some (a_2, xAi .int 6 fl))), ([some (.ref (kA ρ 0 0)), some (.ref aa), some (.ref ad), some (.int (nI n)), some (.ref a_2), some (.int (iI (kI (kGs (aFo α) (kIs σ 4 0 1) n) 7 0))), some (.int (nI (sm (mN (aFo α) σ n) (aI α 1)))), some (.int (nI t)), some (.int b8), some (.int (nI x.1)), x.2, u11] : xL), ([] : List Value)))) (Inv := fun x => x.1 ≤ aI α 1) (μ := fun x => aI α 1 - x.1) ?_ (0, _) (Nat.zero_le _)
          intro x hj ih3
          obtain ⟨q, u10⟩ := x
          dsimp only at hj ih3 ⊢
          refine x_iload hC dX0_someWeeks_283 (q := 285) rfl rfl ?_
          refine x_aloadr_n hC dX0_someWeeks_285 (q := 286) rfl rfl ?_
          refine x_get hC xf_X0_54_0 dX0_someWeeks_286 (q := 289) rfl (n := (101, 0)) (hat _ _) rfl ?_
          refine x_icmp_ge hC dX0_someWeeks_289 (q := 292) rfl (tgt := 380) rfl (fun h289 => ?_) (fun h289 => ?_)
          · have hq1 : q = aI α 1 := by
              have := (nI_leI (a := aI α 1) (b := q) (by omega) (by omega)).mp h289
              omega
            refine x_iconst hC dX0_someWeeks_380 (q := 381) rfl (v := (0)) (by decide) ?_
            refine x_istore hC dX0_someWeeks_381 (q := 383) rfl rfl ?_
            refine x_loop (S := (fun x : Nat => (335 + 334 * aI α 0 + 360 * (t + 1), 2110 + 2104 * aI α 0 + 2400 * (t + 1), kmix ρ (xu gF (141, 0) (some (a_2, xAi .int 6 fl))), ([some (.ref (kA ρ 0 0)), some (.ref aa), some (.ref ad), some (.int (nI n)), some (.ref a_2), some (.int (iI (kI (kGs (aFo α) (kIs σ 4 0 1) n) 7 0))), some (.int (nI (sm (mN (aFo α) σ n) (aI α 1)))), some (.int (nI t)), some (.int b8), some (.int (nI x)), u10, u11] : xL), ([] : List Value)))) (Inv := fun x => x ≤ aI α 0) (μ := fun x => aI α 0 - x) ?_ 0 (Nat.zero_le _)
            intro c hj ih3
            dsimp only at hj ih3 ⊢
            refine x_iload hC dX0_someWeeks_383 (q := 385) rfl rfl ?_
            refine x_aloadr_n hC dX0_someWeeks_385 (q := 386) rfl rfl ?_
            refine x_get hC xf_X0_60_0 dX0_someWeeks_386 (q := 389) rfl (n := (101, 0)) (hat _ _) rfl ?_
            refine x_icmp_ge hC dX0_someWeeks_389 (q := 392) rfl (tgt := 415) rfl (fun h389 => ?_) (fun h389 => ?_)
            · have hc1 : c = aI α 0 := by
                have := (nI_leI (a := aI α 0) (b := c) (by omega) (by omega)).mp h389
                omega
              refine x_iload hC dX0_someWeeks_415 (q := 417) rfl rfl ?_
              refine x_if_ne hC dX0_someWeeks_417 (q := 420) rfl (tgt := 440) rfl (fun h417 => ?_) (fun h417 => ?_)
              · have ht1 : t = 1 := by
                  have : ¬ t = 0 := fun e => h417 (by rw [e]; rfl)
                  omega
                refine x_iinc hC dX0_someWeeks_440 (q := 443) rfl rfl (v := nI (t + 1)) (nI_1 t) ?_
                refine x_goto hC dX0_someWeeks_443 (tgt := 98) rfl ?_
                first
                  | (have e2 : t + 1 = 2 := by omega
                     exact ih (t + 1, ρ, _, _, _, _) ⟨by (try dsimp only); omega, fun w => absurd w (by (try dsimp only); omega), fun _ => hAR.bk hB⟩ (by (try dsimp only); omega))
                  | exact x_widen (by (try dsimp only); omega) (by (try dsimp only); omega) (ih (t + 1, σ2, _, _, _, _) ⟨by (try dsimp only); omega, fun _ => hnext, fun w => absurd w (by (try dsimp only); omega)⟩ (by (try dsimp only); omega))
              have ht0 : t = 0 := nI_eq0 (by omega) h417
              refine x_aloadr_n hC dX0_someWeeks_420 (q := 421) rfl rfl ?_
              refine x_callV hC xv_X0_244 dX0_someWeeks_421 (q := 424) rfl rfl (m_undo_f h0 gF (xu gF (141, 0) (some (a_2, xAi .int 6 fl))) (hFx _) hLt hGt hW) (nn := (0, 0)) rfl rfl rfl (Nat.le_of_ble_eq_true rfl) ⟨(by (try dsimp only); omega), (by (try dsimp only); omega)⟩ ⟨(by (try dsimp only); omega), (by (try dsimp only); omega)⟩ (fun v g1 hp => ?_)
              obtain ⟨σ2, rfl, hg1, hL2, hG2, hB2⟩ := hp
              subst hg1
              rw [show kA ρ 0 0 = kA σ2 0 0 from hAR.2.1.trans hB2.2.2.2.2.1.symm]
              have hnext : LSt gF α d0 σ2 ∧ KSt (xu gF (141, 0) (some (a_2, xAi .int 6 fl))) (aFo α) d0 σ2 ∧ Bk σ σ2 := ⟨hL2, hG2, hB.trans hB2⟩
              refine x_if_eq hC dX0_someWeeks_424 (q := 427) rfl (tgt := 438) rfl (fun h424 => ?_) (fun h424 => ?_)
              · exact absurd h424 (by decide)
              refine x_aloadr_n hC dX0_someWeeks_427 (q := 428) rfl rfl ?_
              refine x_aloadr_n hC dX0_someWeeks_428 (q := 429) rfl rfl ?_
              refine x_aloadr_n hC dX0_someWeeks_429 (q := 430) rfl rfl ?_
              refine x_iconst hC dX0_someWeeks_430 (q := 431) rfl (v := (-1)) (by decide) ?_
              refine x_iconst hC dX0_someWeeks_431 (q := 432) rfl (v := (-1)) (by decide) ?_
              refine x_callV hC xv_X0_191 dX0_someWeeks_432 (q := 435) rfl rfl (m_same_W h0 (xu gF (141, 0) (some (a_2, xAi .int 6 fl))) (hDx _) (hAx _) hok hAF ⟨hG2, hL2.2⟩ (hB.trans hB2)) (nn := (120, 0)) (hd0 _ _) rfl rfl (Nat.le_of_ble_eq_true rfl) ⟨(by (try dsimp only); omega), (by (try dsimp only); omega)⟩ ⟨(by (try dsimp only); omega), (by (try dsimp only); omega)⟩ (fun v g1 hp => ?_)
              obtain ⟨rfl, hg1⟩ := hp
              replace hg1 := hg1.symm
              subst hg1
              refine x_if_ne hC dX0_someWeeks_435 (q := 438) rfl (tgt := 440) rfl (fun h435 => ?_) (fun h435 => ?_)
              · have hx435 := h435
                refine x_iinc hC dX0_someWeeks_440 (q := 443) rfl rfl (v := nI (t + 1)) (nI_1 t) ?_
                refine x_goto hC dX0_someWeeks_443 (tgt := 98) rfl ?_
                first
                  | (have e2 : t + 1 = 2 := by omega
                     exact ih (t + 1, ρ, _, _, _, _) ⟨by (try dsimp only); omega, fun w => absurd w (by (try dsimp only); omega), fun _ => hAR.bk hB⟩ (by (try dsimp only); omega))
                  | exact x_widen (by (try dsimp only); omega) (by (try dsimp only); omega) (ih (t + 1, σ2, _, _, _, _) ⟨by (try dsimp only); omega, fun _ => hnext, fun w => absurd w (by (try dsimp only); omega)⟩ (by (try dsimp only); omega))
              · exact absurd h435 (by decide)
            have hc1 : c < aI α 0 := Nat.not_le.mp (fun w => h389 (nI_le w (by omega)))
            refine x_aloadr_n hC dX0_someWeeks_392 (q := 393) rfl rfl ?_
            refine x_iload hC dX0_someWeeks_393 (q := 395) rfl rfl ?_
            refine x_iconst hC dX0_someWeeks_395 (q := 396) rfl (v := (5)) (by decide) ?_
            refine x_callV hC xv_X0_63 dX0_someWeeks_396 (q := 399) rfl rfl (m_X2_child_5 h0 ρ (xu gF (141, 0) (some (a_2, xAi .int 6 fl))) hwr c (by rw [s9, hn61]; exact hc1)) (nn := (0, 0)) rfl rfl rfl (Nat.le_of_ble_eq_true rfl) ⟨(by (try dsimp only); omega), (by (try dsimp only); omega)⟩ ⟨(by (try dsimp only); omega), (by (try dsimp only); omega)⟩ (fun v g1 hp => ?_)
            rw [s7 c] at hp
            obtain ⟨rfl, hg1⟩ := hp
            replace hg1 := hg1.symm
            subst hg1
            refine x_aloadr hC dX0_someWeeks_399 (q := 401) rfl rfl ?_
            refine x_iload hC dX0_someWeeks_401 (q := 403) rfl rfl ?_
            refine x_iald hC dX0_someWeeks_403 (q := 404) rfl (n := (141, 0)) ((kmix_F _ _ _ rfl).trans (xu_eq _ _ _)) (j := c) rfl (by omega) (by decide) ?_
            rw [hfl c hc1]
            refine x_icmp_eq hC dX0_someWeeks_404 (q := 407) rfl (tgt := 409) rfl (fun h404 => ?_) (fun h404 => ?_)
            · have hx404 := h404
              refine x_iinc hC dX0_someWeeks_409 (q := 412) rfl rfl (v := nI (c + 1)) (nI_1 c) ?_
              refine x_goto hC dX0_someWeeks_412 (tgt := 383) rfl ?_
              exact ih3 (c + 1) (by (try dsimp only); omega) (by (try dsimp only); omega)
            · exact absurd rfl h404
          have hq1 : q < aI α 1 := Nat.not_le.mp (fun w => h289 (nI_le w (by omega)))
          have hqr : q < kA ρ 62 0 := by rw [s10, hK]; exact hq1
          obtain ⟨v5, v6, v7, v8, v9⟩ := hAF.2.2.1 q hq1
          refine x_aloadr_n hC dX0_someWeeks_292 (q := 293) rfl rfl ?_
          refine x_get hC xf_X0_160_16 dX0_someWeeks_293 (q := 296) rfl (n := (120, 0)) (hd0 _ _) rfl ?_
          refine x_iload hC dX0_someWeeks_296 (q := 298) rfl rfl ?_
          refine x_iald hC dX0_someWeeks_298 (q := 299) rfl (n := (125, 0)) (hd3 _ _ 9 (by decide) (by decide)) (j := q) rfl (by omega) (by decide) ?_
          refine x_meet (pc2 := 318) (S := (fun x : Int32 => (335 + 334 * aI α 0 + 360 * (t + 1), 2110 + 2104 * aI α 0 + 2400 * (t + 1), kmix ρ (xu gF (141, 0) (some (a_2, xAi .int 6 fl))), ([some (.ref (kA ρ 0 0)), some (.ref aa), some (.ref ad), some (.int (nI n)), some (.ref a_2), some (.int (iI (kI (kGs (aFo α) (kIs σ 4 0 1) n) 7 0))), some (.int (nI (sm (mN (aFo α) σ n) (aI α 1)))), some (.int (nI t)), some (.int b8), some (.int (nI q)), u10, u11] : xL), ([.int x] : List Value)))) (Inv := fun x => x = nI (mN (aFo α) σ n q)) (fun ih => ?_) (fun xx hi => ?_)
          · refine x_if_lt hC dX0_someWeeks_299 (q := 302) rfl (tgt := 317) rfl (fun h299 => ?_) (fun h299 => ?_)
            · have hm0 : mN (aFo α) σ n q = 0 := (hm01 q hq1).resolve_right (fun w => absurd ((hmx q hq1).mp w).1 (Int32.not_le.mpr h299))
              refine x_iconst hC dX0_someWeeks_317 (q := 318) rfl (v := (0)) (by decide) ?_
              first
                | exact ih 1 (by rw [hm1]; rfl)
                | exact ih 0 (by rw [hm0]; rfl)
            have hx299 := h299
            refine x_aloadr_n hC dX0_someWeeks_302 (q := 303) rfl rfl ?_
            refine x_get hC xf_X0_160_16 dX0_someWeeks_303 (q := 306) rfl (n := (120, 0)) (hd0 _ _) rfl ?_
            refine x_iload hC dX0_someWeeks_306 (q := 308) rfl rfl ?_
            refine x_iald hC dX0_someWeeks_308 (q := 309) rfl (n := (125, 0)) (hd3 _ _ 9 (by decide) (by decide)) (j := q) rfl (by omega) (by decide) ?_
            refine x_iload_n hC dX0_someWeeks_309 (q := 310) rfl rfl ?_
            refine x_icmp_ge hC dX0_someWeeks_310 (q := 313) rfl (tgt := 317) rfl (fun h310 => ?_) (fun h310 => ?_)
            · have hm0 : mN (aFo α) σ n q = 0 := (hm01 q hq1).resolve_right (fun w => absurd ((hmx q hq1).mp w).2 (Int32.not_lt.mpr h310))
              refine x_iconst hC dX0_someWeeks_317 (q := 318) rfl (v := (0)) (by decide) ?_
              first
                | exact ih 1 (by rw [hm1]; rfl)
                | exact ih 0 (by rw [hm0]; rfl)
            have hm1 : mN (aFo α) σ n q = 1 := (hmx q hq1).mpr ⟨Int32.not_lt.mp hx299, Int32.not_le.mp h310⟩
            refine x_iconst hC dX0_someWeeks_313 (q := 314) rfl (v := (1)) (by decide) ?_
            refine x_goto hC dX0_someWeeks_314 (tgt := 318) rfl ?_
            first
              | exact ih 1 (by rw [hm1]; rfl)
              | exact ih 0 (by rw [hm0]; rfl)
          subst hi
          dsimp only
          refine x_istore hC dX0_someWeeks_318 (q := 320) rfl rfl ?_
          refine x_aloadr_n hC dX0_someWeeks_320 (q := 321) rfl rfl ?_
          refine x_iload hC dX0_someWeeks_321 (q := 323) rfl rfl ?_
          refine x_iconst hC dX0_someWeeks_323 (q := 324) rfl (v := (1)) (by decide) ?_
          refine x_callV hC xv_X0_80 dX0_someWeeks_324 (q := 327) rfl rfl (m_X2_kiln_1 h0 ρ (xu gF (141, 0) (some (a_2, xAi .int 6 fl))) hwr q hqr) (nn := (0, 0)) rfl rfl rfl (Nat.le_of_ble_eq_true rfl) ⟨(by (try dsimp only); omega), (by (try dsimp only); omega)⟩ ⟨(by (try dsimp only); omega), (by (try dsimp only); omega)⟩ (fun v g1 hp => ?_)
          obtain ⟨rfl, hg1⟩ := hp
          replace hg1 := hg1.symm
          subst hg1
          refine x_iload hC dX0_someWeeks_327 (q := 329) rfl rfl ?_
          refine x_meet (pc2 := 343) (S := (fun x : Int32 => (335 + 334 * aI α 0 + 360 * (t + 1), 2110 + 2104 * aI α 0 + 2400 * (t + 1), kmix ρ (xu gF (141, 0) (some (a_2, xAi .int 6 fl))), ([some (.ref (kA ρ 0 0)), some (.ref aa), some (.ref ad), some (.int (nI n)), some (.ref a_2), some (.int (iI (kI (kGs (aFo α) (kIs σ 4 0 1) n) 7 0))), some (.int (nI (sm (mN (aFo α) σ n) (aI α 1)))), some (.int (nI t)), some (.int b8), some (.int (nI q)), some (.int (nI (mN (aFo α) σ n q))), u11] : xL), ([.int x, .int (nI (kFull ρ q))] : List Value)))) (Inv := fun x => x = nI (kFull ρ q)) (fun ih => ?_) (fun xx hi => ?_)
          · refine x_if_eq hC dX0_someWeeks_329 (q := 332) rfl (tgt := 336) rfl (fun h329 => ?_) (fun h329 => ?_)
            · have hm0 : mN (aFo α) σ n q = 0 := nI_eq0 (by have := hm01 q hq1; omega) h329
              refine x_aloadr_n hC dX0_someWeeks_336 (q := 337) rfl rfl ?_
              refine x_get hC xf_X0_115_16 dX0_someWeeks_337 (q := 340) rfl (n := (120, 0)) (hd0 _ _) rfl ?_
              refine x_iload hC dX0_someWeeks_340 (q := 342) rfl rfl ?_
              refine x_iald hC dX0_someWeeks_342 (q := 343) rfl (n := (122, 0)) (hd3 _ _ 6 (by decide) (by decide)) (j := q) rfl (by omega) (by decide) ?_
              first
                | exact ih 0 (by rw [((s6 q hq1).1 hm1).2]; rfl)
                | exact ih (V 6 q) (by rw [((s6 q hq1).2 hm0).2]; exact v6)
            have hm1 : mN (aFo α) σ n q = 1 := (hm01 q hq1).resolve_left (fun w => h329 (by rw [w]; rfl))
            refine x_iconst hC dX0_someWeeks_332 (q := 333) rfl (v := (0)) (by decide) ?_
            refine x_goto hC dX0_someWeeks_333 (tgt := 343) rfl ?_
            first
              | exact ih 0 (by rw [((s6 q hq1).1 hm1).2]; rfl)
              | exact ih (V 6 q) (by rw [((s6 q hq1).2 hm0).2]; exact v6)
          subst hi
          dsimp only
          refine x_icmp_ne hC dX0_someWeeks_343 (q := 346) rfl (tgt := 372) rfl (fun h343 => ?_) (fun h343 => ?_)
          · exact absurd rfl h343
          refine x_aloadr_n hC dX0_someWeeks_346 (q := 347) rfl rfl ?_
          refine x_iload hC dX0_someWeeks_347 (q := 349) rfl rfl ?_
          refine x_iconst hC dX0_someWeeks_349 (q := 350) rfl (v := (2)) (by decide) ?_
          refine x_callV hC xv_X0_80 dX0_someWeeks_350 (q := 353) rfl rfl (m_X2_kiln_2 h0 ρ (xu gF (141, 0) (some (a_2, xAi .int 6 fl))) hwr q hqr) (nn := (0, 0)) rfl rfl rfl (Nat.le_of_ble_eq_true rfl) ⟨(by (try dsimp only); omega), (by (try dsimp only); omega)⟩ ⟨(by (try dsimp only); omega), (by (try dsimp only); omega)⟩ (fun v g1 hp => ?_)
          obtain ⟨rfl, hg1⟩ := hp
          replace hg1 := hg1.symm
          subst hg1
          refine x_iload hC dX0_someWeeks_353 (q := 355) rfl rfl ?_
          refine x_meet (pc2 := 369) (S := (fun x : Int32 => (335 + 334 * aI α 0 + 360 * (t + 1), 2110 + 2104 * aI α 0 + 2400 * (t + 1), kmix ρ (xu gF (141, 0) (some (a_2, xAi .int 6 fl))), ([some (.ref (kA ρ 0 0)), some (.ref aa), some (.ref ad), some (.int (nI n)), some (.ref a_2), some (.int (iI (kI (kGs (aFo α) (kIs σ 4 0 1) n) 7 0))), some (.int (nI (sm (mN (aFo α) σ n) (aI α 1)))), some (.int (nI t)), some (.int b8), some (.int (nI q)), some (.int (nI (mN (aFo α) σ n q))), u11] : xL), ([.int x, .int (iI (kI ρ 41 q))] : List Value)))) (Inv := fun x => x = iI (kI ρ 41 q)) (fun ih => ?_) (fun xx hi => ?_)
          · refine x_if_eq hC dX0_someWeeks_355 (q := 358) rfl (tgt := 362) rfl (fun h355 => ?_) (fun h355 => ?_)
            · have hm0 : mN (aFo α) σ n q = 0 := nI_eq0 (by have := hm01 q hq1; omega) h355
              refine x_aloadr_n hC dX0_someWeeks_362 (q := 363) rfl rfl ?_
              refine x_get hC xf_X0_149_16 dX0_someWeeks_363 (q := 366) rfl (n := (120, 0)) (hd0 _ _) rfl ?_
              refine x_iload hC dX0_someWeeks_366 (q := 368) rfl rfl ?_
              refine x_iald hC dX0_someWeeks_368 (q := 369) rfl (n := (123, 0)) (hd3 _ _ 7 (by decide) (by decide)) (j := q) rfl (by omega) (by decide) ?_
              first
                | exact ih (-1) (by rw [((s6 q hq1).1 hm1).1]; rfl)
                | exact ih (V 7 q) (by rw [((s6 q hq1).2 hm0).1]; exact v7)
            have hm1 : mN (aFo α) σ n q = 1 := (hm01 q hq1).resolve_left (fun w => h355 (by rw [w]; rfl))
            refine x_iconst hC dX0_someWeeks_358 (q := 359) rfl (v := (-1)) (by decide) ?_
            refine x_goto hC dX0_someWeeks_359 (tgt := 369) rfl ?_
            first
              | exact ih (-1) (by rw [((s6 q hq1).1 hm1).1]; rfl)
              | exact ih (V 7 q) (by rw [((s6 q hq1).2 hm0).1]; exact v7)
          subst hi
          dsimp only
          refine x_icmp_eq hC dX0_someWeeks_369 (q := 372) rfl (tgt := 374) rfl (fun h369 => ?_) (fun h369 => ?_)
          · have hx369 := h369
            refine x_iinc hC dX0_someWeeks_374 (q := 377) rfl rfl (v := nI (q + 1)) (nI_1 q) ?_
            refine x_goto hC dX0_someWeeks_377 (tgt := 283) rfl ?_
            exact ih3 (q + 1, _) (by (try dsimp only); omega) (by (try dsimp only); omega)
          · exact absurd rfl h369
        have hi1 : i < (sm (mN (aFo α) σ n) (aI α 1)) := Nat.lt_of_not_le (fun w => h182 (nI_le (by omega) (by omega)))
        obtain ⟨r1, r2, r3, r4, r5, r6, r7⟩ := s5 i hi1
        have hrr : kA σ 63 0 + i < kA ρ 63 0 := by rw [s3]; omega
        refine x_aloadr_n hC dX0_someWeeks_185 (q := 186) rfl rfl ?_
        refine x_iload hC dX0_someWeeks_186 (q := 188) rfl rfl ?_
        refine x_iconst hC dX0_someWeeks_188 (q := 189) rfl (v := (1)) (by decide) ?_
        refine x_callV hC xv_X0_204 dX0_someWeeks_189 (q := 192) rfl rfl (m_X2_kept h0 ρ (xu gF (141, 0) (some (a_2, xAi .int 6 fl))) hwr (kA σ 63 0 + i) 1 hrr (by decide)) (nn := (0, 0)) rfl rfl rfl (Nat.le_of_ble_eq_true rfl) ⟨(by (try dsimp only); omega), (by (try dsimp only); omega)⟩ ⟨(by (try dsimp only); omega), (by (try dsimp only); omega)⟩ (fun v g1 hp => ?_)
        rw [r4] at hp
        obtain ⟨rfl, hg1⟩ := hp
        replace hg1 := hg1.symm
        subst hg1
        refine x_istore hC dX0_someWeeks_192 (q := 194) rfl rfl ?_
        refine x_iconst hC dX0_someWeeks_194 (q := 195) rfl (v := (3)) (by decide) ?_
        refine x_aloadr_n hC dX0_someWeeks_195 (q := 196) rfl rfl ?_
        refine x_iload hC dX0_someWeeks_196 (q := 198) rfl rfl ?_
        refine x_iconst hC dX0_someWeeks_198 (q := 199) rfl (v := (0)) (by decide) ?_
        refine x_callV hC xv_X0_204 dX0_someWeeks_199 (q := 202) rfl rfl (m_X2_kept h0 ρ (xu gF (141, 0) (some (a_2, xAi .int 6 fl))) hwr (kA σ 63 0 + i) 0 hrr (by decide)) (nn := (0, 0)) rfl rfl rfl (Nat.le_of_ble_eq_true rfl) ⟨(by (try dsimp only); omega), (by (try dsimp only); omega)⟩ ⟨(by (try dsimp only); omega), (by (try dsimp only); omega)⟩ (fun v g1 hp => ?_)
        rw [r3] at hp
        obtain ⟨rfl, hg1⟩ := hp
        replace hg1 := hg1.symm
        subst hg1
        refine x_imul hC dX0_someWeeks_202 (q := 203) rfl ?_
        refine x_iload hC dX0_someWeeks_203 (q := 205) rfl rfl ?_
        refine x_iadd hC dX0_someWeeks_205 (q := 206) rfl ?_
        rw [show (3 : Int32) * nI (wk + (fr i).1) + nI (fr i).2 = nI (3 * (wk + (fr i).1) + (fr i).2) from by rw [show (3 : Int32) = nI 3 from rfl, nI_mu, nI_add]]
        refine x_istore hC dX0_someWeeks_206 (q := 208) rfl rfl ?_
        refine x_iload hC dX0_someWeeks_208 (q := 210) rfl rfl ?_
        refine x_if_lt hC dX0_someWeeks_210 (q := 213) rfl (tgt := 268) rfl (fun h210 => ?_) (fun h210 => ?_)
        · exact absurd (nI_le (a := 0) (b := (fr i).2) (Nat.zero_le _) (by omega)) (Int32.not_le.mpr h210)
        refine x_iload hC dX0_someWeeks_213 (q := 215) rfl rfl ?_
        refine x_aloadr_n hC dX0_someWeeks_215 (q := 216) rfl rfl ?_
        refine x_get hC xf_X0_54_0 dX0_someWeeks_216 (q := 219) rfl (n := (101, 0)) (hat _ _) rfl ?_
        refine x_icmp_ge hC dX0_someWeeks_219 (q := 222) rfl (tgt := 268) rfl (fun h219 => ?_) (fun h219 => ?_)
        · exact absurd ((nI_leI (by omega) (by omega)).mp h219) (by omega)
        refine x_iload hC dX0_someWeeks_222 (q := 224) rfl rfl ?_
        refine x_iload hC dX0_someWeeks_224 (q := 226) rfl rfl ?_
        refine x_icmp_le hC dX0_someWeeks_226 (q := 229) rfl (tgt := 268) rfl (fun h226 => ?_) (fun h226 => ?_)
        · rcases hb8 with ⟨-, e⟩ | ⟨e1, e⟩
          · rw [e] at h226
            have := (iI_le (a := ((3 * (wk + (fr i).1) + (fr i).2 : Nat) : Int)) (b := -1) (iB_nat (by omega)) ⟨by decide, by decide⟩).mp (by rw [iI_nat]; exact h226)
            omega
          · rw [e] at h226
            have h2 := (nI_leI (by omega) (by have := (s5 (i - 1) (by omega)).1; have := (s5 (i - 1) (by omega)).2.1; omega)).mp h226
            have := r7 (i - 1) (by omega)
            omega
        refine x_aloadr_n hC dX0_someWeeks_229 (q := 230) rfl rfl ?_
        refine x_iload hC dX0_someWeeks_230 (q := 232) rfl rfl ?_
        refine x_iconst hC dX0_someWeeks_232 (q := 233) rfl (v := (0)) (by decide) ?_
        refine x_callV hC xv_X0_204 dX0_someWeeks_233 (q := 236) rfl rfl (m_X2_kept h0 ρ (xu gF (141, 0) (some (a_2, xAi .int 6 fl))) hwr (kA σ 63 0 + i) 0 hrr (by decide)) (nn := (0, 0)) rfl rfl rfl (Nat.le_of_ble_eq_true rfl) ⟨(by (try dsimp only); omega), (by (try dsimp only); omega)⟩ ⟨(by (try dsimp only); omega), (by (try dsimp only); omega)⟩ (fun v g1 hp => ?_)
        rw [r3] at hp
        obtain ⟨rfl, hg1⟩ := hp
        replace hg1 := hg1.symm
        subst hg1
        refine x_aloadr_n hC dX0_someWeeks_236 (q := 237) rfl rfl ?_
        refine x_get hC xf_X0_207_16 dX0_someWeeks_237 (q := 240) rfl (n := (120, 0)) (hd0 _ _) rfl ?_
        refine x_aloadr_n hC dX0_someWeeks_240 (q := 241) rfl rfl ?_
        refine x_get hC xf_X0_160_16 dX0_someWeeks_241 (q := 244) rfl (n := (120, 0)) (hd0 _ _) rfl ?_
        refine x_iload hC dX0_someWeeks_244 (q := 246) rfl rfl ?_
        refine x_iald hC dX0_someWeeks_246 (q := 247) rfl (n := (125, 0)) (hd3 _ _ 9 (by decide) (by decide)) (j := (fr i).2) rfl (by omega) (by decide) ?_
        rw [r6]
        refine x_iadd hC dX0_someWeeks_247 (q := 248) rfl ?_
        rw [hAF.1.2.2.1, hwkn, iI_nat, nI_add]
        refine x_icmp_ne hC dX0_someWeeks_248 (q := 251) rfl (tgt := 268) rfl (fun h248 => ?_) (fun h248 => ?_)
        · exact absurd rfl h248
        refine x_aloadr_n hC dX0_someWeeks_251 (q := 252) rfl rfl ?_
        refine x_iload hC dX0_someWeeks_252 (q := 254) rfl rfl ?_
        refine x_iconst hC dX0_someWeeks_254 (q := 255) rfl (v := (2)) (by decide) ?_
        refine x_callV hC xv_X0_204 dX0_someWeeks_255 (q := 258) rfl rfl (m_X2_kept h0 ρ (xu gF (141, 0) (some (a_2, xAi .int 6 fl))) hwr (kA σ 63 0 + i) 2 hrr (by decide)) (nn := (0, 0)) rfl rfl rfl (Nat.le_of_ble_eq_true rfl) ⟨(by (try dsimp only); omega), (by (try dsimp only); omega)⟩ ⟨(by (try dsimp only); omega), (by (try dsimp only); omega)⟩ (fun v g1 hp => ?_)
        rw [r5] at hp
        obtain ⟨rfl, hg1⟩ := hp
        replace hg1 := hg1.symm
        subst hg1
        refine x_aloadr_n hC dX0_someWeeks_258 (q := 259) rfl rfl ?_
        refine x_get hC xf_X0_149_16 dX0_someWeeks_259 (q := 262) rfl (n := (120, 0)) (hd0 _ _) rfl ?_
        refine x_iload hC dX0_someWeeks_262 (q := 264) rfl rfl ?_
        refine x_iald hC dX0_someWeeks_264 (q := 265) rfl (n := (123, 0)) (hd3 _ _ 7 (by decide) (by decide)) (j := (fr i).2) rfl (by omega) (by decide) ?_
        refine x_icmp_eq hC dX0_someWeeks_265 (q := 268) rfl (tgt := 270) rfl (fun h265 => ?_) (fun h265 => ?_)
        · have hx265 := h265
          refine x_iload hC dX0_someWeeks_270 (q := 272) rfl rfl ?_
          refine x_istore hC dX0_someWeeks_272 (q := 274) rfl rfl ?_
          refine x_iinc hC dX0_someWeeks_274 (q := 277) rfl rfl (v := nI (kA σ 63 0 + (i + 1))) (nI_1 (kA σ 63 0 + i)) ?_
          refine x_goto hC dX0_someWeeks_277 (tgt := 173) rfl ?_
          exact ih3 (i + 1, _, _, _) ⟨by (try dsimp only); omega, Or.inr ⟨by (try dsimp only); omega, rfl⟩⟩ (by (try dsimp only); omega)
        · exact absurd rfl h265
      · exact absurd h159 (by decide)
    have hc1 : c < aI α 0 := Nat.not_le.mp (fun w => h74 (nI_le w (by omega)))
    refine x_aloadr hC dX0_someWeeks_77 (q := 79) rfl rfl ?_
    refine x_iload hC dX0_someWeeks_79 (q := 81) rfl rfl ?_
    refine x_aloadr_n hC dX0_someWeeks_81 (q := 82) rfl rfl ?_
    refine x_iload hC dX0_someWeeks_82 (q := 84) rfl rfl ?_
    refine x_iload_n hC dX0_someWeeks_84 (q := 85) rfl rfl ?_
    refine x_callV hC xv_X0_265 dX0_someWeeks_85 (q := 88) rfl rfl ((m_later5 h0 σ (xu gF (141, 0) (some (a_2, xAi .int 6 fl))) y3 f3 (hGx _) (hFx _) c (by rw [hn61]; exact hc1) n (by omega) ⟨hwk0.1, by omega⟩ (hLx _)).room (rm' := xr 54 334 2104 3100) (Nat.le_refl _) (show 4 + 66 * n ≤ 334 by omega) (show 49 + 411 * n ≤ 2104 by omega) (Nat.le_refl _)) (nn := (0, 0)) rfl rfl rfl (Nat.le_of_ble_eq_true rfl) ⟨(by (try dsimp only); omega), (by (try dsimp only); omega)⟩ ⟨(by (try dsimp only); omega), (by (try dsimp only); omega)⟩ (fun v g1 hp => ?_)
    obtain ⟨f4, y4, rfl, hg1⟩ := hp
    subst hg1
    refine x_iast hC dX0_someWeeks_88 (q := 89) rfl (n := (141, 0)) rfl ((kmix_F _ _ _ rfl).trans (xu_eq _ _ _)) (j := c) rfl (by omega) (by decide) ?_
    refine x_geq (g' := kmix (kT (kIs σ 5 0 y4) f4) (xu gF (141, 0) (some (a_2, xAi .int 6 (upd fl c (iI (kI (kGs (aFo α) (kIs σ 4 0 1) n) 34 c))))))) (by rw [kmix_xuF _ _ _ _ rfl, xu_xu]) ?_
    have hfl2 : ∀ d, d < c + 1 → upd fl c (iI (kI (kGs (aFo α) (kIs σ 4 0 1) n) 34 c)) d = iI (kI (kGs (aFo α) (kIs σ 4 0 1) n) 34 d) := fun d hd => by
      unfold upd
      by_cases e : d = c
      · subst e; rw [if_pos rfl]
      · rw [if_neg e]; exact hfl d (by omega)
    refine x_iinc hC dX0_someWeeks_89 (q := 92) rfl rfl (v := nI (c + 1)) (nI_1 c) ?_
    refine x_goto hC dX0_someWeeks_92 (tgt := 68) rfl ?_
    exact x_widen (by (try dsimp only); omega) (by (try dsimp only); omega) (ih2 (c + 1, f4, y4, _) ⟨by (try dsimp only); omega, hfl2⟩ (by (try dsimp only); omega))
  have hq1 : q < aI α 1 := Nat.not_le.mp (fun w => h25 (nI_le w (by omega)))
  refine x_iload hC dX0_someWeeks_28 (q := 30) rfl rfl ?_
  refine x_aloadr_n hC dX0_someWeeks_30 (q := 31) rfl rfl ?_
  refine x_get hC xf_X0_160_16 dX0_someWeeks_31 (q := 34) rfl (n := (120, 0)) (hd0 _ _) rfl ?_
  refine x_iload hC dX0_someWeeks_34 (q := 36) rfl rfl ?_
  refine x_iald hC dX0_someWeeks_36 (q := 37) rfl (n := (125, 0)) (hd3 _ _ 9 (by decide) (by decide)) (j := q) rfl (by omega) (by decide) ?_
  refine x_meet (pc2 := 56) (S := (fun x : Int32 => ((335 : Nat), (2110 : Nat), kmix (kT (kIs σ 5 0 y2) f2) (xu gF (141, 0) (some (a_2, xAi .int 6 (fun _ => 0)))), ([some (.ref (kA σ 0 0)), some (.ref aa), some (.ref ad), some (.int (nI n)), some (.ref a_2), some (.int (iI (kI (kGs (aFo α) (kIs σ 4 0 1) n) 7 0))), some (.int (nI (sm (mN (aFo α) σ n) q))), some (.int (nI q)), none, none, none, none] : xL), ([.int x, .int (nI (sm (mN (aFo α) σ n) q))] : List Value)))) (Inv := fun x => x = nI (mN (aFo α) σ n q)) (fun ih => ?_) (fun xx hi => ?_)
  · refine x_if_lt hC dX0_someWeeks_37 (q := 40) rfl (tgt := 55) rfl (fun h37 => ?_) (fun h37 => ?_)
    · have hm0 : mN (aFo α) σ n q = 0 := (hm01 q hq1).resolve_right (fun w => absurd ((hmx q hq1).mp w).1 (Int32.not_le.mpr h37))
      refine x_iconst hC dX0_someWeeks_55 (q := 56) rfl (v := (0)) (by decide) ?_
      first
        | exact ih 1 (by rw [hm1]; rfl)
        | exact ih 0 (by rw [hm0]; rfl)
    have hx37 := h37
    refine x_aloadr_n hC dX0_someWeeks_40 (q := 41) rfl rfl ?_
    refine x_get hC xf_X0_160_16 dX0_someWeeks_41 (q := 44) rfl (n := (120, 0)) (hd0 _ _) rfl ?_
    refine x_iload hC dX0_someWeeks_44 (q := 46) rfl rfl ?_
    refine x_iald hC dX0_someWeeks_46 (q := 47) rfl (n := (125, 0)) (hd3 _ _ 9 (by decide) (by decide)) (j := q) rfl (by omega) (by decide) ?_
    refine x_iload_n hC dX0_someWeeks_47 (q := 48) rfl rfl ?_
    refine x_icmp_ge hC dX0_someWeeks_48 (q := 51) rfl (tgt := 55) rfl (fun h48 => ?_) (fun h48 => ?_)
    · have hm0 : mN (aFo α) σ n q = 0 := (hm01 q hq1).resolve_right (fun w => absurd ((hmx q hq1).mp w).2 (Int32.not_lt.mpr h48))
      refine x_iconst hC dX0_someWeeks_55 (q := 56) rfl (v := (0)) (by decide) ?_
      first
        | exact ih 1 (by rw [hm1]; rfl)
        | exact ih 0 (by rw [hm0]; rfl)
    have hm1 : mN (aFo α) σ n q = 1 := (hmx q hq1).mpr ⟨Int32.not_lt.mp hx37, Int32.not_le.mp h48⟩
    refine x_iconst hC dX0_someWeeks_51 (q := 52) rfl (v := (1)) (by decide) ?_
    refine x_goto hC dX0_someWeeks_52 (tgt := 56) rfl ?_
    first
      | exact ih 1 (by rw [hm1]; rfl)
      | exact ih 0 (by rw [hm0]; rfl)
  subst hi
  dsimp only
  refine x_iadd hC dX0_someWeeks_56 (q := 57) rfl ?_
  rw [nI_add]
  refine x_istore hC dX0_someWeeks_57 (q := 59) rfl rfl ?_
  refine x_iinc hC dX0_someWeeks_59 (q := 62) rfl rfl (v := nI (q + 1)) (nI_1 q) ?_
  refine x_goto hC dX0_someWeeks_62 (tgt := 19) rfl ?_
  exact ih (q + 1) (by (try dsimp only); omega) (by (try dsimp only); omega)
