/-! acts: set, take, light -/
set_option maxHeartbeats 4000000 in
set_option maxRecDepth 100000 in
theorem m_acts_3 {l : Launch} {s0 : State} {D : va_G} (h0 : x0 l s0 D) (σ : KS) (gB : xG) {aa sa d0 k : Nat} {α : aA} {fs : Nat → Int32} (hk : k < 30) (hs : gB (100, 0) = some (sa, xAi .int 400 fs)) (hB : ∀ n : xN, 120 ≤ n.1 → n.1 ≤ 141 → gB n = none) (hL0 : gB (2000, 0) = none) (hA : AH gB aa α) (hok : aOk α) (hL : LSt gB α d0 σ) (hFo : KFo s0 gB d0) (hwk : 0 ≤ kI σ 3 0 ∧ kI σ 3 0 ≤ 880) (hst : 0 ≤ kV σ 1 0 3 ∧ kV σ 1 0 3 ≤ 1000) (hcl : 8 ≤ soF α fs k ∧ soF α fs k < 14) : xMet l s0 D yX0_acts cX0_acts 13 (some .boolean) (xr 58 15200 94500 3500) [.ref (kA σ 0 0), .ref aa, .ref sa, .int (nI k)] (kmix σ gB) (fun r g1 => ∃ ρ, r = some (.int 1) ∧ AR gB α d0 σ ρ ∧ g1 = kmix ρ gB) := by
  have hb0 := hok.1
  have hb1 := hok.2.1
  have hso20 : soF α fs k < 20 := by
    have := (pk_ok (fs (24 + 6 * k)) (n := 20) (by decide) (by decide)).1
    unfold soF
    split
    · split <;> decide
    · exact this
  refine xMet.of h0 (by decide +kernel) rfl ?_
  intro zp ze zs zm za zb zf zc hC hr hnm
  refine x_geq (g' := kmix (kT σ (kL σ 0)) gB) (by rw [kT_self]) ?_
  refine x_new hC (fs := [.int 0, .int 0, .int 0, .int 0, .int 0, .null, .null, .null, .null, .null, .null, .null, .null, .null, .null, .null, .null, .null, .null]) (120, 0) xc_16 q1596 q1597 q113 dX0_acts_0 (q := 3) rfl rfl ((kmix_F _ _ _ rfl).trans (hB (120, 0) (by decide) (by decide))) (fun j hj => by match j, hj with | 0, _ => rfl | 1, _ => rfl | 2, _ => rfl | 3, _ => rfl | 4, _ => rfl | 5, _ => rfl | 6, _ => rfl | 7, _ => rfl | 8, _ => rfl | 9, _ => rfl | 10, _ => rfl | 11, _ => rfl | 12, _ => rfl | 13, _ => rfl | 14, _ => rfl | 15, _ => rfl | 16, _ => rfl | 17, _ => rfl | 18, _ => rfl | j + 19, h => exact absurd h (by omega)) (Nat.le_of_ble_eq_true rfl) (Nat.le_of_ble_eq_true rfl) (fun a_0 => ?_)
  refine x_geq (g' := kmix (kT σ (kL σ 0)) (xu gB (120, 0) (some (a_0, xO 16 [.int 0, .int 0, .int 0, .int 0, .int 0, .null, .null, .null, .null, .null, .null, .null, .null, .null, .null, .null, .null, .null, .null])))) (kmix_xuF _ _ _ _ rfl) ?_
  refine x_dup hC dX0_acts_3 (q := 4) rfl rfl ?_
  refine x_aloadr_n hC dX0_acts_4 (q := 5) rfl rfl ?_
  refine x_aloadr_n hC dX0_acts_5 (q := 6) rfl rfl ?_
  refine x_callI hC xv_X0_267 dX0_acts_6 (q := 9) rfl rfl (m_X19_init h0 σ (xu gB (120, 0) (some (a_0, xO 16 [.int 0, .int 0, .int 0, .int 0, .int 0, .null, .null, .null, .null, .null, .null, .null, .null, .null, .null, .null, .null, .null, .null]))) gB (kL σ 0) (DN_0 hB) (fun n a b => hB n a (by omega)) hL0 hA hok hL.1 hFo hL.2.1 ⟨hwk.1, by omega⟩) rfl (Nat.le_of_ble_eq_true rfl) ⟨(by (try dsimp only); omega), (by (try dsimp only); omega)⟩ ⟨(by (try dsimp only); omega), (by (try dsimp only); omega)⟩ (fun v g1 hp => ?_)
  obtain ⟨f1, y1, gF, I, V, M, rfl, hg1, ⟨ra, rr, hQ⟩, hI, hAI⟩ := hp
  subst hg1
  have hD : DW gF a_0 I V M := hQ.dw
  have hA1 : AH gF aa α := hQ.ah hA
  have hFo1 : KFo s0 gF d0 := hQ.fo hFo
  have hG1 : LSt gF α d0 σ := ⟨hQ.st (fun n a b => hB n a (by omega)) hL.1, hL.2⟩
  have hAF : AF α σ I V M := ⟨hI, hAI⟩
  have h140 : gF (140, 0) = none := (hQ.out _ (Or.inr (by decide))).trans (hB (140, 0) (by decide) (by decide))
  have h141 : gF (141, 0) = none := (hQ.out _ (Or.inr (by decide))).trans (hB (141, 0) (by decide) (by decide))
  have hL01 : gF (2000, 0) = none := (hQ.out _ (Or.inr (by decide))).trans hL0
  have hs1 : gF (100, 0) = some (sa, xAi .int 400 fs) := (hQ.out _ (Or.inl (by decide))).trans hs
  have hsub := hQ.sub (fun n a b => hB n a (by omega))
  clear hQ hI hAI
  refine x_astorer hC dX0_acts_9 (q := 11) rfl rfl ?_
  refine x_aloadr_n hC dX0_acts_11 (q := 12) rfl rfl ?_
  refine x_get hC xf_X0_54_0 dX0_acts_12 (q := 15) rfl (n := (101, 0)) (AHo hA1) rfl ?_
  refine x_meet (pc2 := 47) (S := (fun x : aEnv => ((11801 : Nat), (73019 : Nat), kmix (kT (kIs σ 5 0 y1) x) gF, ([some (.ref (kA σ 0 0)), some (.ref aa), some (.ref sa), some (.int (nI k)), some (.ref a_0), none, none, none, none, none, none, none, none] : xL), ([] : List Value)))) (Inv := fun _ => True) (fun ih => ?_) (fun xx hi => ?_)
  · refine x_if_le hC dX0_acts_15 (q := 18) rfl (tgt := 47) rfl (fun h15 => ?_) (fun h15 => ?_)
    · have hx15 := h15
      exact x_widen (by (try dsimp only); omega) (by (try dsimp only); omega) (ih _ trivial)
    have hK0 : 0 < aI α 1 := Nat.pos_of_ne_zero (fun w => h15 (by rw [w]; decide))
    have hkq : k % aI α 1 < aI α 1 := Nat.mod_lt _ hK0
    refine x_aloadr_n hC dX0_acts_18 (q := 19) rfl rfl ?_
    refine x_aloadr_n hC dX0_acts_19 (q := 20) rfl rfl ?_
    refine x_aloadr hC dX0_acts_20 (q := 22) rfl rfl ?_
    refine x_iload_n hC dX0_acts_22 (q := 23) rfl rfl ?_
    refine x_aloadr_n hC dX0_acts_23 (q := 24) rfl rfl ?_
    refine x_get hC xf_X0_54_0 dX0_acts_24 (q := 27) rfl (n := (101, 0)) (AHo hA1) rfl ?_
    refine x_irem hC dX0_acts_27 (q := 28) rfl (fun w => h15 (by rw [w]; decide)) ?_
    rw [nI_mod (by omega) hK0 (by omega)]
    refine x_iload_n hC dX0_acts_28 (q := 29) rfl rfl ?_
    refine x_iconst hC dX0_acts_29 (q := 30) rfl (v := (5)) (by decide) ?_
    refine x_irem hC dX0_acts_30 (q := 31) rfl (by decide) ?_
    rw [show nI k - nI k / 5 * 5 = nI (k % 5) from nI_mod (b := 5) (by omega) (by decide) (by decide)]
    refine x_if_ne hC dX0_acts_31 (q := 34) rfl (tgt := 38) rfl (fun h31 => ?_) (fun h31 => ?_)
    · have hx31 := h31
      refine x_iconst hC dX0_acts_38 (q := 39) rfl (v := (0)) (by decide) ?_
      refine x_callS hC xv_X0_270 dX0_acts_39 (q := 42) rfl rfl (m_X0_isSafe h0 (kIs σ 5 0 y1) gF f1 hD hA1 hok hL.2.1 (hG1.1.i5 y1) hFo1 (hAF.2.i5 y1) hkq _ (fun _ hro f sf hS => m_X0_isBest h0 (kIs σ 5 0 y1) gF f hD hA1 hok hL.2.1 (hG1.1.i5 y1) hFo1 (hAF.2.i5 y1) hkq hro hS)) rfl (Nat.le_of_ble_eq_true rfl) ⟨(by (try dsimp only); omega), (by (try dsimp only); omega)⟩ ⟨(by (try dsimp only); omega), (by (try dsimp only); omega)⟩ (fun v g1 hp => ?_)
      obtain ⟨f2, rfl, hg1⟩ := hp
      subst hg1
      refine x_if_ne hC dX0_acts_42 (q := 45) rfl (tgt := 47) rfl (fun h42 => ?_) (fun h42 => ?_)
      · have hx42 := h42
        exact x_widen (by (try dsimp only); omega) (by (try dsimp only); omega) (ih _ trivial)
      · exact absurd h42 (by decide)
    have hx31 := h31
    refine x_iconst hC dX0_acts_34 (q := 35) rfl (v := (1)) (by decide) ?_
    refine x_goto hC dX0_acts_35 (tgt := 39) rfl ?_
    refine x_callS hC xv_X0_270 dX0_acts_39 (q := 42) rfl rfl (m_X0_isSafe h0 (kIs σ 5 0 y1) gF f1 hD hA1 hok hL.2.1 (hG1.1.i5 y1) hFo1 (hAF.2.i5 y1) hkq _ (fun _ hro f sf hS => m_X0_isBest h0 (kIs σ 5 0 y1) gF f hD hA1 hok hL.2.1 (hG1.1.i5 y1) hFo1 (hAF.2.i5 y1) hkq hro hS)) rfl (Nat.le_of_ble_eq_true rfl) ⟨(by (try dsimp only); omega), (by (try dsimp only); omega)⟩ ⟨(by (try dsimp only); omega), (by (try dsimp only); omega)⟩ (fun v g1 hp => ?_)
    obtain ⟨f2, rfl, hg1⟩ := hp
    subst hg1
    refine x_if_ne hC dX0_acts_42 (q := 45) rfl (tgt := 47) rfl (fun h42 => ?_) (fun h42 => ?_)
    · have hx42 := h42
      exact x_widen (by (try dsimp only); omega) (by (try dsimp only); omega) (ih _ trivial)
    · exact absurd h42 (by decide)
  obtain ⟨f3, hf3⟩ : ∃ z, z = xx := ⟨_, rfl⟩
  subst hf3
  dsimp only
  refine x_aloadr_n hC dX0_acts_47 (q := 48) rfl rfl ?_
  refine x_get hC xf_X0_60_0 dX0_acts_48 (q := 51) rfl (n := (101, 0)) (AHo hA1) rfl ?_
  refine x_meet (pc2 := 80) (S := (fun x : aEnv × Int => ((12071 : Nat), (74719 : Nat), kmix (kT (kIs σ 5 0 x.2) x.1) gF, ([some (.ref (kA σ 0 0)), some (.ref aa), some (.ref sa), some (.int (nI k)), some (.ref a_0), none, none, none, none, none, none, none, none] : xL), ([] : List Value)))) (Inv := fun _ => True) (fun ih => ?_) (fun xx hi => ?_)
  · refine x_if_le hC dX0_acts_51 (q := 54) rfl (tgt := 80) rfl (fun h51 => ?_) (fun h51 => ?_)
    · have hx51 := h51
      first
        | exact x_widen (by (try dsimp only); omega) (by (try dsimp only); omega) (ih (f3, y1) trivial)
        | (rw [kIs_kIs]; exact x_widen (by (try dsimp only); omega) (by (try dsimp only); omega) (ih (f4, y4) trivial))
    have hn0 : 0 < aI α 0 := Nat.pos_of_ne_zero (fun w => h51 (by rw [w]; decide))
    have hkc : k / 3 % aI α 0 < aI α 0 := Nat.mod_lt _ hn0
    refine x_iload_n hC dX0_acts_54 (q := 55) rfl rfl ?_
    refine x_iconst hC dX0_acts_55 (q := 56) rfl (v := (3)) (by decide) ?_
    refine x_irem hC dX0_acts_56 (q := 57) rfl (by decide) ?_
    rw [show nI k - nI k / 3 * 3 = nI (k % 3) from nI_mod (b := 3) (by omega) (by decide) (by decide)]
    refine x_if_ne hC dX0_acts_57 (q := 60) rfl (tgt := 80) rfl (fun h57 => ?_) (fun h57 => ?_)
    · have hx57 := h57
      first
        | exact x_widen (by (try dsimp only); omega) (by (try dsimp only); omega) (ih (f3, y1) trivial)
        | (rw [kIs_kIs]; exact x_widen (by (try dsimp only); omega) (by (try dsimp only); omega) (ih (f4, y4) trivial))
    have hx57 := h57
    refine x_aloadr_n hC dX0_acts_60 (q := 61) rfl rfl ?_
    refine x_aloadr_n hC dX0_acts_61 (q := 62) rfl rfl ?_
    refine x_aloadr hC dX0_acts_62 (q := 64) rfl rfl ?_
    refine x_iload_n hC dX0_acts_64 (q := 65) rfl rfl ?_
    refine x_iconst hC dX0_acts_65 (q := 66) rfl (v := (3)) (by decide) ?_
    refine x_idiv hC dX0_acts_66 (q := 67) rfl (by decide) ?_
    rw [show nI k / 3 = nI (k / 3) from nI_div (b := 3) (by omega) (by decide) (by decide)]
    refine x_aloadr_n hC dX0_acts_67 (q := 68) rfl rfl ?_
    refine x_get hC xf_X0_60_0 dX0_acts_68 (q := 71) rfl (n := (101, 0)) (AHo hA1) rfl ?_
    refine x_irem hC dX0_acts_71 (q := 72) rfl (fun w => h51 (by rw [w]; decide)) ?_
    rw [nI_mod (by omega) hn0 (by omega)]
    refine x_callS hC xv_X0_274 dX0_acts_72 (q := 75) rfl rfl (m_X0_areOdds h0 (kIs σ 5 0 y1) gF f3 hD hA1 hok (hG1.i5 y1 f3) hFo1 (hAF.bk (Bk.i5 σ y1 f3)) ⟨hwk.1, (show kI σ 3 0 ≤ 900 by omega)⟩ hkc) rfl (Nat.le_of_ble_eq_true rfl) ⟨(by (try dsimp only); omega), (by (try dsimp only); omega)⟩ ⟨(by (try dsimp only); omega), (by (try dsimp only); omega)⟩ (fun v g1 hp => ?_)
    obtain ⟨f4, y4, rfl, hg1⟩ := hp
    subst hg1
    refine x_if_ne hC dX0_acts_75 (q := 78) rfl (tgt := 80) rfl (fun h75 => ?_) (fun h75 => ?_)
    · have hx75 := h75
      first
        | exact x_widen (by (try dsimp only); omega) (by (try dsimp only); omega) (ih (f3, y1) trivial)
        | (rw [kIs_kIs]; exact x_widen (by (try dsimp only); omega) (by (try dsimp only); omega) (ih (f4, y4) trivial))
    · exact absurd h75 (by decide)
  obtain ⟨f5, y5⟩ := xx
  dsimp only
  obtain ⟨τ, hτ⟩ : ∃ τ, τ = kT (kIs σ 5 0 y5) f5 := ⟨_, rfl⟩
  rw [← hτ]
  have hBt : Bk σ τ := by rw [hτ]; exact Bk.i5 σ y5 f5
  have hLt : LSt gF α d0 τ := by rw [hτ]; exact hG1.i5 y5 f5
  have hAt : AF α τ I V M := hAF.bk hBt
  rw [show kA σ 0 0 = kA τ 0 0 from hBt.2.2.2.2.1.symm]
  have hwt : kI τ 3 0 = kI σ 3 0 := hBt.1.1 3 0 rfl
  have hst3 : kV τ 1 0 3 = kV σ 1 0 3 := hBt.2.2.2.1 0 3
  have hsx : kmix τ gF (100, 0) = some (sa, xAi .int 400 fs) := (kmix_F _ _ _ rfl).trans hs1
  clear hτ
  refine x_bipush hC dX0_acts_80 (q := 82) rfl (v := (24)) (by decide) ?_
  refine x_bipush hC dX0_acts_82 (q := 84) rfl (v := (6)) (by decide) ?_
  refine x_iload_n hC dX0_acts_84 (q := 85) rfl rfl ?_
  refine x_imul hC dX0_acts_85 (q := 86) rfl ?_
  refine x_iadd hC dX0_acts_86 (q := 87) rfl ?_
  rw [show (24 : Int32) + 6 * nI k = nI (24 + 6 * k) from by rw [show (24 : Int32) = nI 24 from rfl, show (6 : Int32) = nI 6 from rfl, nI_mu, nI_add]]
  refine x_istore hC dX0_acts_87 (q := 89) rfl rfl ?_
  refine x_aloadr_n hC dX0_acts_89 (q := 90) rfl rfl ?_
  refine x_iload hC dX0_acts_90 (q := 92) rfl rfl ?_
  refine x_bipush hC dX0_acts_92 (q := 94) rfl (v := (20)) (by decide) ?_
  refine x_callS hC xv_X0_277 dX0_acts_94 (q := 97) rfl rfl (m_X0_pick h0 _ hsx (k := 24 + 6 * k) (n := 20) (by omega) (by decide) (by decide)) rfl (Nat.le_of_ble_eq_true rfl) ⟨(by (try dsimp only); omega), (by (try dsimp only); omega)⟩ ⟨(by (try dsimp only); omega), (by (try dsimp only); omega)⟩ (fun v g1 hp => ?_)
  obtain ⟨rfl, hg1⟩ := hp
  replace hg1 := hg1.symm
  subst hg1
  refine x_istore hC dX0_acts_97 (q := 99) rfl rfl ?_
  refine x_aloadr_n hC dX0_acts_99 (q := 100) rfl rfl ?_
  refine x_iload hC dX0_acts_100 (q := 102) rfl rfl ?_
  refine x_iconst hC dX0_acts_102 (q := 103) rfl (v := (1)) (by decide) ?_
  refine x_iadd hC dX0_acts_103 (q := 104) rfl ?_
  rw [show nI (24 + 6 * k) + 1 = nI (24 + 6 * k + 1) from nI_1 _]
  refine x_iconst hC dX0_acts_104 (q := 105) rfl (v := (5)) (by decide) ?_
  refine x_callS hC xv_X0_277 dX0_acts_105 (q := 108) rfl rfl (m_X0_pick h0 _ hsx (k := 24 + 6 * k + 1) (n := 5) (by omega) (by decide) (by decide)) rfl (Nat.le_of_ble_eq_true rfl) ⟨(by (try dsimp only); omega), (by (try dsimp only); omega)⟩ ⟨(by (try dsimp only); omega), (by (try dsimp only); omega)⟩ (fun v g1 hp => ?_)
  obtain ⟨rfl, hg1⟩ := hp
  replace hg1 := hg1.symm
  subst hg1
  refine x_meet (pc2 := 143) (S := (fun x : Int32 => ((12071 : Nat), (74719 : Nat), kmix τ gF, ([some (.ref (kA τ 0 0)), some (.ref aa), some (.ref sa), some (.int (nI k)), some (.ref a_0), some (.int (nI (24 + 6 * k))), some (.int (nI (pk (fs (24 + 6 * k)) 20))), none, none, none, none, none, none] : xL), ([.int x] : List Value)))) (Inv := fun x => ∃ c, c < 1000 ∧ x = nI c) (fun ih => ?_) (fun xx hi => ?_)
  · refine x_if_le hC dX0_acts_108 (q := 111) rfl (tgt := 133) rfl (fun h108 => ?_) (fun h108 => ?_)
    · have hx108 := h108
      refine x_aloadr_n hC dX0_acts_133 (q := 134) rfl rfl ?_
      refine x_iload hC dX0_acts_134 (q := 136) rfl rfl ?_
      refine x_iconst hC dX0_acts_136 (q := 137) rfl (v := (2)) (by decide) ?_
      refine x_iadd hC dX0_acts_137 (q := 138) rfl ?_
      rw [show nI (24 + 6 * k) + 2 = nI (24 + 6 * k + 2) from nI_add _ 2]
      refine x_bipush hC dX0_acts_138 (q := 140) rfl (v := (8)) (by decide) ?_
      refine x_callS hC xv_X0_277 dX0_acts_140 (q := 143) rfl rfl (m_X0_pick h0 _ hsx (k := 24 + 6 * k + 2) (n := 8) (by omega) (by decide) (by decide)) rfl (Nat.le_of_ble_eq_true rfl) ⟨(by (try dsimp only); omega), (by (try dsimp only); omega)⟩ ⟨(by (try dsimp only); omega), (by (try dsimp only); omega)⟩ (fun v g1 hp => ?_)
      obtain ⟨rfl, hg1⟩ := hp
      replace hg1 := hg1.symm
      subst hg1
      exact ih _ ⟨_, pk_b _ (by omega) (by omega), rfl⟩
    have hx108 := h108
    refine x_aloadr_n hC dX0_acts_111 (q := 112) rfl rfl ?_
    refine x_get hC xf_X0_60_0 dX0_acts_112 (q := 115) rfl (n := (101, 0)) (AHo hA1) rfl ?_
    refine x_if_le hC dX0_acts_115 (q := 118) rfl (tgt := 133) rfl (fun h115 => ?_) (fun h115 => ?_)
    · have hx115 := h115
      refine x_aloadr_n hC dX0_acts_133 (q := 134) rfl rfl ?_
      refine x_iload hC dX0_acts_134 (q := 136) rfl rfl ?_
      refine x_iconst hC dX0_acts_136 (q := 137) rfl (v := (2)) (by decide) ?_
      refine x_iadd hC dX0_acts_137 (q := 138) rfl ?_
      rw [show nI (24 + 6 * k) + 2 = nI (24 + 6 * k + 2) from nI_add _ 2]
      refine x_bipush hC dX0_acts_138 (q := 140) rfl (v := (8)) (by decide) ?_
      refine x_callS hC xv_X0_277 dX0_acts_140 (q := 143) rfl rfl (m_X0_pick h0 _ hsx (k := 24 + 6 * k + 2) (n := 8) (by omega) (by decide) (by decide)) rfl (Nat.le_of_ble_eq_true rfl) ⟨(by (try dsimp only); omega), (by (try dsimp only); omega)⟩ ⟨(by (try dsimp only); omega), (by (try dsimp only); omega)⟩ (fun v g1 hp => ?_)
      obtain ⟨rfl, hg1⟩ := hp
      replace hg1 := hg1.symm
      subst hg1
      exact ih _ ⟨_, pk_b _ (by omega) (by omega), rfl⟩
    have hn0 : 0 < aI α 0 := Nat.pos_of_ne_zero (fun w => h115 (by rw [w]; decide))
    refine x_aloadr_n hC dX0_acts_118 (q := 119) rfl rfl ?_
    refine x_iload hC dX0_acts_119 (q := 121) rfl rfl ?_
    refine x_iconst hC dX0_acts_121 (q := 122) rfl (v := (2)) (by decide) ?_
    refine x_iadd hC dX0_acts_122 (q := 123) rfl ?_
    rw [show nI (24 + 6 * k) + 2 = nI (24 + 6 * k + 2) from nI_add _ 2]
    refine x_aloadr_n hC dX0_acts_123 (q := 124) rfl rfl ?_
    refine x_get hC xf_X0_60_0 dX0_acts_124 (q := 127) rfl (n := (101, 0)) (AHo hA1) rfl ?_
    refine x_callS hC xv_X0_277 dX0_acts_127 (q := 130) rfl rfl (m_X0_pick h0 _ hsx (k := 24 + 6 * k + 2) (n := aI α 0) (by omega) hn0 (by omega)) rfl (Nat.le_of_ble_eq_true rfl) ⟨(by (try dsimp only); omega), (by (try dsimp only); omega)⟩ ⟨(by (try dsimp only); omega), (by (try dsimp only); omega)⟩ (fun v g1 hp => ?_)
    obtain ⟨rfl, hg1⟩ := hp
    replace hg1 := hg1.symm
    subst hg1
    refine x_goto hC dX0_acts_130 (tgt := 143) rfl ?_
    exact ih _ ⟨_, pk_b _ (by omega) (by omega), rfl⟩
  obtain ⟨x1, hx1, hxe⟩ := hi
  subst hxe
  dsimp only
  refine x_istore hC dX0_acts_143 (q := 145) rfl rfl ?_
  refine x_aloadr_n hC dX0_acts_145 (q := 146) rfl rfl ?_
  refine x_iload hC dX0_acts_146 (q := 148) rfl rfl ?_
  refine x_iconst hC dX0_acts_148 (q := 149) rfl (v := (3)) (by decide) ?_
  refine x_iadd hC dX0_acts_149 (q := 150) rfl ?_
  rw [show nI (24 + 6 * k) + 3 = nI (24 + 6 * k + 3) from nI_add _ 3]
  refine x_bipush hC dX0_acts_150 (q := 152) rfl (v := (6)) (by decide) ?_
  refine x_callS hC xv_X0_277 dX0_acts_152 (q := 155) rfl rfl (m_X0_pick h0 _ hsx (k := 24 + 6 * k + 3) (n := 6) (by omega) (by decide) (by decide)) rfl (Nat.le_of_ble_eq_true rfl) ⟨(by (try dsimp only); omega), (by (try dsimp only); omega)⟩ ⟨(by (try dsimp only); omega), (by (try dsimp only); omega)⟩ (fun v g1 hp => ?_)
  obtain ⟨rfl, hg1⟩ := hp
  replace hg1 := hg1.symm
  subst hg1
  refine x_meet (pc2 := 189) (S := (fun x : Int32 => ((12071 : Nat), (74719 : Nat), kmix τ gF, ([some (.ref (kA τ 0 0)), some (.ref aa), some (.ref sa), some (.int (nI k)), some (.ref a_0), some (.int (nI (24 + 6 * k))), some (.int (nI (pk (fs (24 + 6 * k)) 20))), some (.int (nI x1)), none, none, none, none, none] : xL), ([.int x] : List Value)))) (Inv := fun x => ∃ c, c < 1000 ∧ x = nI c) (fun ih => ?_) (fun xx hi => ?_)
  · refine x_if_le hC dX0_acts_155 (q := 158) rfl (tgt := 180) rfl (fun h155 => ?_) (fun h155 => ?_)
    · have hx155 := h155
      refine x_aloadr_n hC dX0_acts_180 (q := 181) rfl rfl ?_
      refine x_iload hC dX0_acts_181 (q := 183) rfl rfl ?_
      refine x_iconst hC dX0_acts_183 (q := 184) rfl (v := (4)) (by decide) ?_
      refine x_iadd hC dX0_acts_184 (q := 185) rfl ?_
      rw [show nI (24 + 6 * k) + 4 = nI (24 + 6 * k + 4) from nI_add _ 4]
      refine x_iconst hC dX0_acts_185 (q := 186) rfl (v := (4)) (by decide) ?_
      refine x_callS hC xv_X0_277 dX0_acts_186 (q := 189) rfl rfl (m_X0_pick h0 _ hsx (k := 24 + 6 * k + 4) (n := 4) (by omega) (by decide) (by decide)) rfl (Nat.le_of_ble_eq_true rfl) ⟨(by (try dsimp only); omega), (by (try dsimp only); omega)⟩ ⟨(by (try dsimp only); omega), (by (try dsimp only); omega)⟩ (fun v g1 hp => ?_)
      obtain ⟨rfl, hg1⟩ := hp
      replace hg1 := hg1.symm
      subst hg1
      exact ih _ ⟨_, pk_b _ (by omega) (by omega), rfl⟩
    have hx155 := h155
    refine x_aloadr_n hC dX0_acts_158 (q := 159) rfl rfl ?_
    refine x_get hC xf_X0_54_0 dX0_acts_159 (q := 162) rfl (n := (101, 0)) (AHo hA1) rfl ?_
    refine x_if_le hC dX0_acts_162 (q := 165) rfl (tgt := 180) rfl (fun h162 => ?_) (fun h162 => ?_)
    · have hx162 := h162
      refine x_aloadr_n hC dX0_acts_180 (q := 181) rfl rfl ?_
      refine x_iload hC dX0_acts_181 (q := 183) rfl rfl ?_
      refine x_iconst hC dX0_acts_183 (q := 184) rfl (v := (4)) (by decide) ?_
      refine x_iadd hC dX0_acts_184 (q := 185) rfl ?_
      rw [show nI (24 + 6 * k) + 4 = nI (24 + 6 * k + 4) from nI_add _ 4]
      refine x_iconst hC dX0_acts_185 (q := 186) rfl (v := (4)) (by decide) ?_
      refine x_callS hC xv_X0_277 dX0_acts_186 (q := 189) rfl rfl (m_X0_pick h0 _ hsx (k := 24 + 6 * k + 4) (n := 4) (by omega) (by decide) (by decide)) rfl (Nat.le_of_ble_eq_true rfl) ⟨(by (try dsimp only); omega), (by (try dsimp only); omega)⟩ ⟨(by (try dsimp only); omega), (by (try dsimp only); omega)⟩ (fun v g1 hp => ?_)
      obtain ⟨rfl, hg1⟩ := hp
      replace hg1 := hg1.symm
      subst hg1
      exact ih _ ⟨_, pk_b _ (by omega) (by omega), rfl⟩
    have hK0 : 0 < aI α 1 := Nat.pos_of_ne_zero (fun w => h162 (by rw [w]; decide))
    refine x_aloadr_n hC dX0_acts_165 (q := 166) rfl rfl ?_
    refine x_iload hC dX0_acts_166 (q := 168) rfl rfl ?_
    refine x_iconst hC dX0_acts_168 (q := 169) rfl (v := (4)) (by decide) ?_
    refine x_iadd hC dX0_acts_169 (q := 170) rfl ?_
    rw [show nI (24 + 6 * k) + 4 = nI (24 + 6 * k + 4) from nI_add _ 4]
    refine x_aloadr_n hC dX0_acts_170 (q := 171) rfl rfl ?_
    refine x_get hC xf_X0_54_0 dX0_acts_171 (q := 174) rfl (n := (101, 0)) (AHo hA1) rfl ?_
    refine x_callS hC xv_X0_277 dX0_acts_174 (q := 177) rfl rfl (m_X0_pick h0 _ hsx (k := 24 + 6 * k + 4) (n := aI α 1) (by omega) hK0 (by omega)) rfl (Nat.le_of_ble_eq_true rfl) ⟨(by (try dsimp only); omega), (by (try dsimp only); omega)⟩ ⟨(by (try dsimp only); omega), (by (try dsimp only); omega)⟩ (fun v g1 hp => ?_)
    obtain ⟨rfl, hg1⟩ := hp
    replace hg1 := hg1.symm
    subst hg1
    refine x_goto hC dX0_acts_177 (tgt := 189) rfl ?_
    exact ih _ ⟨_, pk_b _ (by omega) (by omega), rfl⟩
  obtain ⟨y1q, hy1, hye⟩ := hi
  subst hye
  dsimp only
  refine x_istore hC dX0_acts_189 (q := 191) rfl rfl ?_
  refine x_aloadr_n hC dX0_acts_191 (q := 192) rfl rfl ?_
  refine x_iload hC dX0_acts_192 (q := 194) rfl rfl ?_
  refine x_iconst hC dX0_acts_194 (q := 195) rfl (v := (5)) (by decide) ?_
  refine x_iadd hC dX0_acts_195 (q := 196) rfl ?_
  rw [show nI (24 + 6 * k) + 5 = nI (24 + 6 * k + 5) from nI_add _ 5]
  refine x_sipush hC dX0_acts_196 (q := 199) rfl (v := (1000)) (by decide) ?_
  refine x_callS hC xv_X0_277 dX0_acts_199 (q := 202) rfl rfl (m_X0_pick h0 _ hsx (k := 24 + 6 * k + 5) (n := 1000) (by omega) (by decide) (by decide)) rfl (Nat.le_of_ble_eq_true rfl) ⟨(by (try dsimp only); omega), (by (try dsimp only); omega)⟩ ⟨(by (try dsimp only); omega), (by (try dsimp only); omega)⟩ (fun v g1 hp => ?_)
  obtain ⟨rfl, hg1⟩ := hp
  replace hg1 := hg1.symm
  subst hg1
  obtain ⟨zz, hzz⟩ : ∃ zz, zz = pk (fs (24 + 6 * k + 5)) 1000 := ⟨_, rfl⟩
  rw [← hzz]
  have hz1 : zz < 1000 := by rw [hzz]; exact (pk_ok _ (by decide) (by decide)).1
  clear hzz
  have hsubk : aI α 0 ≤ k → nI k - nI (aI α 0) = nI (k - aI α 0) := fun w => by
    rw [← iI_nat, ← iI_nat, ← iI_nat, iI_sub]
    congr 1
    omega
  refine x_istore hC dX0_acts_202 (q := 204) rfl rfl ?_
  refine x_aloadr_n hC dX0_acts_204 (q := 205) rfl rfl ?_
  refine x_get hC xf_X0_54_0 dX0_acts_205 (q := 208) rfl (n := (101, 0)) (AHo hA1) rfl ?_
  refine x_meet (pc2 := 265) (S := (fun x : Nat × Nat => ((12071 : Nat), (74719 : Nat), kmix τ gF, ([some (.ref (kA τ 0 0)), some (.ref aa), some (.ref sa), some (.int (nI k)), some (.ref a_0), some (.int (nI (24 + 6 * k))), some (.int (nI (soF α fs k))), some (.int (nI x.1)), some (.int (nI x.2)), some (.int (nI zz)), none, none, none] : xL), ([] : List Value)))) (Inv := fun x => x.1 < 1000 ∧ x.2 < 1000) (fun ih => ?_) (fun xx hi => ?_)
  · refine x_if_le hC dX0_acts_208 (q := 211) rfl (tgt := 265) rfl (fun h208 => ?_) (fun h208 => ?_)
    · have hso : soF α fs k = pk (fs (24 + 6 * k)) 20 := if_neg (fun w => by
        have := (nI_leI (a := aI α 1) (b := 0) (by omega) (by decide)).mp h208
        omega)
      first
        | (exfalso; omega)
        | (have ih2 := ih (x1, y1q) ⟨hx1, hy1⟩; rw [hso] at ih2; exact ih2)
        | (have ih2 := ih (k, y1q) ⟨by (try dsimp only); omega, hy1⟩; rw [hso] at ih2; exact ih2)
        | (have ih2 := ih (k, k - aI α 0) ⟨by (try dsimp only); omega, by (try dsimp only); omega⟩; rw [hso, ← hsubk hk1] at ih2; exact ih2)
    have hK0 : 0 < aI α 1 := Nat.pos_of_ne_zero (fun w => h208 (by rw [w]; decide))
    refine x_iload_n hC dX0_acts_211 (q := 212) rfl rfl ?_
    refine x_aloadr_n hC dX0_acts_212 (q := 213) rfl rfl ?_
    refine x_get hC xf_X0_60_0 dX0_acts_213 (q := 216) rfl (n := (101, 0)) (AHo hA1) rfl ?_
    refine x_aloadr_n hC dX0_acts_216 (q := 217) rfl rfl ?_
    refine x_get hC xf_X0_54_0 dX0_acts_217 (q := 220) rfl (n := (101, 0)) (AHo hA1) rfl ?_
    refine x_iadd hC dX0_acts_220 (q := 221) rfl ?_
    rw [nI_add]
    refine x_icmp_ge hC dX0_acts_221 (q := 224) rfl (tgt := 265) rfl (fun h221 => ?_) (fun h221 => ?_)
    · have hso : soF α fs k = pk (fs (24 + 6 * k)) 20 := if_neg (fun w => by
        have := (nI_leI (a := aI α 0 + aI α 1) (b := k) (by omega) (by omega)).mp h221
        omega)
      first
        | (exfalso; omega)
        | (have ih2 := ih (x1, y1q) ⟨hx1, hy1⟩; rw [hso] at ih2; exact ih2)
        | (have ih2 := ih (k, y1q) ⟨by (try dsimp only); omega, hy1⟩; rw [hso] at ih2; exact ih2)
        | (have ih2 := ih (k, k - aI α 0) ⟨by (try dsimp only); omega, by (try dsimp only); omega⟩; rw [hso, ← hsubk hk1] at ih2; exact ih2)
    have hks : k < aI α 0 + aI α 1 := Nat.not_le.mp (fun w => h221 (nI_le w (by omega)))
    refine x_iload_n hC dX0_acts_224 (q := 225) rfl rfl ?_
    refine x_aloadr_n hC dX0_acts_225 (q := 226) rfl rfl ?_
    refine x_get hC xf_X0_60_0 dX0_acts_226 (q := 229) rfl (n := (101, 0)) (AHo hA1) rfl ?_
    refine x_icmp_ge hC dX0_acts_229 (q := 232) rfl (tgt := 237) rfl (fun h229 => ?_) (fun h229 => ?_)
    · have hk0 : aI α 0 ≤ k := (nI_leI (by omega) (by omega)).mp h229
      have hso : soF α fs k = 19 := (if_pos ⟨hK0, hks⟩).trans (if_neg (by omega))
      refine x_bipush hC dX0_acts_237 (q := 239) rfl (v := (19)) (by decide) ?_
      refine x_istore hC dX0_acts_239 (q := 241) rfl rfl ?_
      refine x_iload_n hC dX0_acts_241 (q := 242) rfl rfl ?_
      refine x_istore hC dX0_acts_242 (q := 244) rfl rfl ?_
      refine x_iload_n hC dX0_acts_244 (q := 245) rfl rfl ?_
      refine x_aloadr_n hC dX0_acts_245 (q := 246) rfl rfl ?_
      refine x_get hC xf_X0_60_0 dX0_acts_246 (q := 249) rfl (n := (101, 0)) (AHo hA1) rfl ?_
      refine x_icmp_ge hC dX0_acts_249 (q := 252) rfl (tgt := 257) rfl (fun h249 => ?_) (fun h249 => ?_)
      · have hk1 : aI α 0 ≤ k := (nI_leI (by omega) (by omega)).mp h249
        refine x_iload_n hC dX0_acts_257 (q := 258) rfl rfl ?_
        refine x_aloadr_n hC dX0_acts_258 (q := 259) rfl rfl ?_
        refine x_get hC xf_X0_60_0 dX0_acts_259 (q := 262) rfl (n := (101, 0)) (AHo hA1) rfl ?_
        refine x_isub hC dX0_acts_262 (q := 263) rfl ?_
        refine x_istore hC dX0_acts_263 (q := 265) rfl rfl ?_
        first
          | (exfalso; omega)
          | (have ih2 := ih (x1, y1q) ⟨hx1, hy1⟩; rw [hso] at ih2; exact ih2)
          | (have ih2 := ih (k, y1q) ⟨by (try dsimp only); omega, hy1⟩; rw [hso] at ih2; exact ih2)
          | (have ih2 := ih (k, k - aI α 0) ⟨by (try dsimp only); omega, by (try dsimp only); omega⟩; rw [hso, ← hsubk hk1] at ih2; exact ih2)
      have hk1 : k < aI α 0 := Nat.not_le.mp (fun w => h249 (nI_le w (by omega)))
      refine x_iload hC dX0_acts_252 (q := 254) rfl rfl ?_
      refine x_goto hC dX0_acts_254 (tgt := 263) rfl ?_
      refine x_istore hC dX0_acts_263 (q := 265) rfl rfl ?_
      first
        | (exfalso; omega)
        | (have ih2 := ih (x1, y1q) ⟨hx1, hy1⟩; rw [hso] at ih2; exact ih2)
        | (have ih2 := ih (k, y1q) ⟨by (try dsimp only); omega, hy1⟩; rw [hso] at ih2; exact ih2)
        | (have ih2 := ih (k, k - aI α 0) ⟨by (try dsimp only); omega, by (try dsimp only); omega⟩; rw [hso, ← hsubk hk1] at ih2; exact ih2)
    have hk0 : k < aI α 0 := Nat.not_le.mp (fun w => h229 (nI_le w (by omega)))
    have hso : soF α fs k = 8 := (if_pos ⟨hK0, hks⟩).trans (if_pos hk0)
    refine x_bipush hC dX0_acts_232 (q := 234) rfl (v := (8)) (by decide) ?_
    refine x_goto hC dX0_acts_234 (tgt := 239) rfl ?_
    refine x_istore hC dX0_acts_239 (q := 241) rfl rfl ?_
    refine x_iload_n hC dX0_acts_241 (q := 242) rfl rfl ?_
    refine x_istore hC dX0_acts_242 (q := 244) rfl rfl ?_
    refine x_iload_n hC dX0_acts_244 (q := 245) rfl rfl ?_
    refine x_aloadr_n hC dX0_acts_245 (q := 246) rfl rfl ?_
    refine x_get hC xf_X0_60_0 dX0_acts_246 (q := 249) rfl (n := (101, 0)) (AHo hA1) rfl ?_
    refine x_icmp_ge hC dX0_acts_249 (q := 252) rfl (tgt := 257) rfl (fun h249 => ?_) (fun h249 => ?_)
    · have hk1 : aI α 0 ≤ k := (nI_leI (by omega) (by omega)).mp h249
      refine x_iload_n hC dX0_acts_257 (q := 258) rfl rfl ?_
      refine x_aloadr_n hC dX0_acts_258 (q := 259) rfl rfl ?_
      refine x_get hC xf_X0_60_0 dX0_acts_259 (q := 262) rfl (n := (101, 0)) (AHo hA1) rfl ?_
      refine x_isub hC dX0_acts_262 (q := 263) rfl ?_
      refine x_istore hC dX0_acts_263 (q := 265) rfl rfl ?_
      first
        | (exfalso; omega)
        | (have ih2 := ih (x1, y1q) ⟨hx1, hy1⟩; rw [hso] at ih2; exact ih2)
        | (have ih2 := ih (k, y1q) ⟨by (try dsimp only); omega, hy1⟩; rw [hso] at ih2; exact ih2)
        | (have ih2 := ih (k, k - aI α 0) ⟨by (try dsimp only); omega, by (try dsimp only); omega⟩; rw [hso, ← hsubk hk1] at ih2; exact ih2)
    have hk1 : k < aI α 0 := Nat.not_le.mp (fun w => h249 (nI_le w (by omega)))
    refine x_iload hC dX0_acts_252 (q := 254) rfl rfl ?_
    refine x_goto hC dX0_acts_254 (tgt := 263) rfl ?_
    refine x_istore hC dX0_acts_263 (q := 265) rfl rfl ?_
    first
      | (exfalso; omega)
      | (have ih2 := ih (x1, y1q) ⟨hx1, hy1⟩; rw [hso] at ih2; exact ih2)
      | (have ih2 := ih (k, y1q) ⟨by (try dsimp only); omega, hy1⟩; rw [hso] at ih2; exact ih2)
      | (have ih2 := ih (k, k - aI α 0) ⟨by (try dsimp only); omega, by (try dsimp only); omega⟩; rw [hso, ← hsubk hk1] at ih2; exact ih2)
  obtain ⟨x2, y2⟩ := xx
  obtain ⟨hx2, hy2⟩ := hi
  dsimp only at hx2 hy2 ⊢
  refine x_iload hC dX0_acts_265 (q := 267) rfl rfl ?_
  refine x_iconst hC dX0_acts_267 (q := 268) rfl (v := (4)) (by decide) ?_
  refine x_icmp_ge hC dX0_acts_268 (q := 271) rfl (tgt := 279) rfl (fun h268 => ?_) (fun h268 => ?_)
  · have hx268 := h268
    refine x_iload hC dX0_acts_279 (q := 281) rfl rfl ?_
    refine x_bipush hC dX0_acts_281 (q := 283) rfl (v := (6)) (by decide) ?_
    refine x_icmp_ge hC dX0_acts_283 (q := 286) rfl (tgt := 294) rfl (fun h283 => ?_) (fun h283 => ?_)
    · have hx283 := h283
      refine x_iload hC dX0_acts_294 (q := 296) rfl rfl ?_
      refine x_bipush hC dX0_acts_296 (q := 298) rfl (v := (8)) (by decide) ?_
      refine x_icmp_ge hC dX0_acts_298 (q := 301) rfl (tgt := 315) rfl (fun h298 => ?_) (fun h298 => ?_)
      · have hx298 := h298
        refine x_iload hC dX0_acts_315 (q := 317) rfl rfl ?_
        refine x_bipush hC dX0_acts_317 (q := 319) rfl (v := (14)) (by decide) ?_
        refine x_icmp_ge hC dX0_acts_319 (q := 322) rfl (tgt := 326) rfl (fun h319 => ?_) (fun h319 => ?_)
        · exact absurd ((nI_leI (a := 14) (b := soF α fs k) (by decide) (by omega)).mp h319) (by omega)
        have hx319 := h319
        refine x_iconst hC dX0_acts_322 (q := 323) rfl (v := (0)) (by decide) ?_
        refine x_goto hC dX0_acts_323 (tgt := 338) rfl ?_
        refine x_istore hC dX0_acts_338 (q := 340) rfl rfl ?_
        refine x_iload hC dX0_acts_340 (q := 342) rfl rfl ?_
        refine x_if_ne hC dX0_acts_342 (q := 345) rfl (tgt := 373) rfl (fun h342 => ?_) (fun h342 => ?_)
        · exact absurd rfl h342
        have hx342 := h342
        refine x_iload hC dX0_acts_345 (q := 347) rfl rfl ?_
        refine x_iconst hC dX0_acts_347 (q := 348) rfl (v := (4)) (by decide) ?_
        refine x_irem hC dX0_acts_348 (q := 349) rfl (by decide) ?_
        refine x_meet (pc2 := 380) (S := (fun x : Nat => ((12071 : Nat), (74719 : Nat), kmix τ gF, ([some (.ref (kA τ 0 0)), some (.ref aa), some (.ref sa), some (.int (nI k)), some (.ref a_0), some (.int (nI (24 + 6 * k))), some (.int (nI (soF α fs k))), some (.int (nI x2)), some (.int (nI y2)), some (.int (nI zz)), some (.int 0), none, none] : xL), ([.int (nI x)] : List Value)))) (Inv := fun x => x < 100) (fun ih => ?_) (fun xx hi => ?_)
        · rw [show nI zz - nI zz / 4 * 4 = nI (zz % 4) from nI_mod (b := 4) (by omega) (by decide) (by decide)]
          refine x_if_le hC dX0_acts_349 (q := 352) rfl (tgt := 363) rfl (fun h349 => ?_) (fun h349 => ?_)
          · have hx349 := h349
            refine x_iload hC dX0_acts_363 (q := 365) rfl rfl ?_
            refine x_iconst hC dX0_acts_365 (q := 366) rfl (v := (4)) (by decide) ?_
            refine x_idiv hC dX0_acts_366 (q := 367) rfl (by decide) ?_
            refine x_bipush hC dX0_acts_367 (q := 369) rfl (v := (7)) (by decide) ?_
            refine x_irem hC dX0_acts_369 (q := 370) rfl (by decide) ?_
            rw [show nI zz / 4 - nI zz / 4 / 7 * 7 = nI (zz / 4 % 7) from by rw [show (4 : Int32) = nI 4 from rfl, nI_div (by omega) (by decide) (by decide), show (7 : Int32) = nI 7 from rfl, nI_mod (by omega) (by decide) (by decide)]]
            refine x_goto hC dX0_acts_370 (tgt := 380) rfl ?_
            first
              | exact ih p (by omega)
              | exact ih (zz / 4 % 7) (by omega)
          have hx349 := h349
          refine x_aloadr hC dX0_acts_352 (q := 354) rfl rfl ?_
          refine x_aloadr_n hC dX0_acts_354 (q := 355) rfl rfl ?_
          refine x_iload hC dX0_acts_355 (q := 357) rfl rfl ?_
          have hKP : ∀ c, c < aI α 0 → V 10 c = kKil τ c ∧ V 11 c = iI (kI τ 33 c) := fun c hc => ⟨(hAt.2.2.2 c hc).1.1.1, (hAt.2.2.2 c hc).1.1.2.1⟩
          have hq6 : kWho (V 10) (V 11) (nI y2) (nI 6) (aI α 0) < 0 := by
            by_cases hyK : y2 < aI α 1
            · rw [kWho_at hok hLt.2.1 hLt.1.2.2.1 hKP hyK (by decide) _ (Nat.le_refl _)]
              have e6 : kO τ 1 y2 6 = none := by
                cases e : kO τ 1 y2 6 with
                | none => rfl
                | some d =>
                  obtain ⟨d1, d2, d3⟩ := (hLt.1.2.2.1.1 y2 6 d).mp e
                  obtain ⟨e1, p2, e2, e3⟩ := hLt.1.2.2.1.2.1 d y2 d1 d2
                  have := hLt.1.2.1.1.2.2.2.1 y2 e1
                  omega
              unfold aAt
              rw [e6]
              exact (show (-1 : Int32) < 0 by decide)
            · rw [kWho_o hLt.2.1 hLt.1.2.2.1 hKP (by omega) (by omega) _ _ (Nat.le_refl _)]
              decide
          refine x_callV hC xv_X0_290 dX0_acts_357 (q := 360) rfl rfl (m_X19_firstFree h0 _ (hD.km τ) (hA1.km τ) hok (nI y2) hq6) (nn := (120, 0)) (DWo hD) rfl rfl (Nat.le_of_ble_eq_true rfl) ⟨(by (try dsimp only); omega), (by (try dsimp only); omega)⟩ ⟨(by (try dsimp only); omega), (by (try dsimp only); omega)⟩ (fun v g1 hp => ?_)
          obtain ⟨p, hp6, rfl, -, -, hg1⟩ := hp
          replace hg1 := hg1.symm
          subst hg1
          refine x_goto hC dX0_acts_360 (tgt := 380) rfl ?_
          first
            | exact ih p (by omega)
            | exact ih (zz / 4 % 7) (by omega)
        obtain ⟨pl, hpl⟩ : ∃ z, z = xx := ⟨_, rfl⟩
        subst hpl
        dsimp only
        refine x_istore hC dX0_acts_380 (q := 382) rfl rfl ?_
        refine x_iload hC dX0_acts_382 (q := 384) rfl rfl ?_
        refine x_if_ne hC dX0_acts_384 (q := 387) rfl (tgt := 403) rfl (fun h384 => ?_) (fun h384 => ?_)
        · exact absurd rfl h384
        have hx384 := h384
        refine x_aloadr_n hC dX0_acts_387 (q := 388) rfl rfl ?_
        refine x_aloadr_n hC dX0_acts_388 (q := 389) rfl rfl ?_
        refine x_aloadr hC dX0_acts_389 (q := 391) rfl rfl ?_
        refine x_iload hC dX0_acts_391 (q := 393) rfl rfl ?_
        refine x_iload hC dX0_acts_393 (q := 395) rfl rfl ?_
        refine x_iload hC dX0_acts_395 (q := 397) rfl rfl ?_
        refine x_callS hC xv_X0_294 dX0_acts_397 (q := 400) rfl rfl (m_sets h0 τ gF hD hA1 hok hLt hFo1 hAt x2 y2 pl hx2 hy2 hi) rfl (Nat.le_of_ble_eq_true rfl) ⟨(by (try dsimp only); omega), (by (try dsimp only); omega)⟩ ⟨(by (try dsimp only); omega), (by (try dsimp only); omega)⟩ (fun v g1 hp => ?_)
        obtain ⟨ρ, rfl, hg1, hact⟩ := hp
        subst hg1
        have hARr : AR gF α d0 τ ρ := by
          rcases hact with h | ⟨h, -⟩
          · rw [h]; exact AR.rf hLt
          · obtain ⟨-, -, -, -, h2⟩ := h
            exact h2
        rw [show kA τ 0 0 = kA ρ 0 0 from hARr.2.1.symm]
        refine x_goto hC dX0_acts_400 (tgt := 432) rfl ?_
        refine x_istore hC dX0_acts_432 (q := 434) rfl rfl ?_
        refine x_iload hC dX0_acts_434 (q := 436) rfl rfl ?_
        refine x_if_eq hC dX0_acts_436 (q := 439) rfl (tgt := 474) rfl (fun h436 => ?_) (fun h436 => ?_)
        · exact absurd h436 (by decide)
        refine x_aloadr_n hC dX0_acts_439 (q := 440) rfl rfl ?_
        refine x_iconst hC dX0_acts_440 (q := 441) rfl (v := (3)) (by decide) ?_
        refine x_callV hC xv_X0_185 dX0_acts_441 (q := 444) rfl rfl (m_X2_status h0 ρ gF 3 (by decide)) (nn := (0, 0)) rfl rfl rfl (Nat.le_of_ble_eq_true rfl) ⟨(by (try dsimp only); omega), (by (try dsimp only); omega)⟩ ⟨(by (try dsimp only); omega), (by (try dsimp only); omega)⟩ (fun v g1 hp => ?_)
        obtain ⟨rfl, hg1⟩ := hp
        replace hg1 := hg1.symm
        subst hg1
        refine x_aloadr hC dX0_acts_444 (q := 446) rfl rfl ?_
        refine x_get hC xf_X0_188_16 dX0_acts_446 (q := 449) rfl (n := (120, 0)) (DWo hD) rfl ?_
        rw [show I 3 = iI (kV τ 1 0 3) from hAt.1.2.2.2.1]
        refine x_icmp_gt hC dX0_acts_449 (q := 452) rfl (tgt := 470) rfl (fun h449 => ?_) (fun h449 => ?_)
        · obtain ⟨ρz, hρz⟩ : ∃ z, z = ρ := ⟨_, rfl⟩
          subst hρz
          have hARz := hARr
          refine x_iconst hC dX0_acts_470 (q := 471) rfl (v := (1)) (by decide) ?_
          refine x_goto hC dX0_acts_471 (tgt := 475) rfl ?_
          refine x_sub (g' := kmix ρz gB) (kmix_sub hsub) ?_
          exact x_zret hC hr rfl dX0_acts_475 (by (try dsimp only); omega) (by (try dsimp only); omega) ⟨ρz, rfl, (hARz.bk hBt).dn hL, rfl⟩
        obtain ⟨hDn, hCC⟩ : Dn gF α d0 τ ρ ∧ _ := by
          rcases hact with h | ⟨h, -, h2⟩
          · exact absurd ((iI_lt (a := kV τ 1 0 3) (b := kV ρ 1 0 3) ⟨by omega, by omega⟩ ⟨by rw [h, kRf_3]; omega, by rw [h, kRf_3]; omega⟩).mpr (by rw [h, kRf_3]; omega)) h449
          · exact ⟨h, h2⟩
        refine x_aloadr_n hC dX0_acts_452 (q := 453) rfl rfl ?_
        refine x_aloadr_n hC dX0_acts_453 (q := 454) rfl rfl ?_
        refine x_aloadr hC dX0_acts_454 (q := 456) rfl rfl ?_
        refine x_iload hC dX0_acts_456 (q := 458) rfl rfl ?_
        refine x_iload hC dX0_acts_458 (q := 460) rfl rfl ?_
        refine x_iload hC dX0_acts_460 (q := 462) rfl rfl ?_
        refine x_iload hC dX0_acts_462 (q := 464) rfl rfl ?_
        refine x_callS hC xv_X0_304 dX0_acts_464 (q := 467) rfl rfl (m_undoes_s h0 τ ρ gF hD hA1 hok hLt hFo1 hAt hDn hCC) rfl (Nat.le_of_ble_eq_true rfl) ⟨(by (try dsimp only); omega), (by (try dsimp only); omega)⟩ ⟨(by (try dsimp only); omega), (by (try dsimp only); omega)⟩ (fun v g1 hp => ?_)
        obtain ⟨ρz, rfl, hARz, hg1⟩ := hp
        subst hg1
        refine x_if_eq hC dX0_acts_467 (q := 470) rfl (tgt := 474) rfl (fun h467 => ?_) (fun h467 => ?_)
        · exact absurd h467 (by decide)
        refine x_iconst hC dX0_acts_470 (q := 471) rfl (v := (1)) (by decide) ?_
        refine x_goto hC dX0_acts_471 (tgt := 475) rfl ?_
        refine x_sub (g' := kmix ρz gB) (kmix_sub hsub) ?_
        exact x_zret hC hr rfl dX0_acts_475 (by (try dsimp only); omega) (by (try dsimp only); omega) ⟨ρz, rfl, (hARz.bk hBt).dn hL, rfl⟩
      · exact absurd (nI_le (a := 8) (b := soF α fs k) (by omega) (by omega)) h298
    · exact absurd (nI_le (a := 6) (b := soF α fs k) (by omega) (by omega)) h283
  · exact absurd (nI_le (a := 4) (b := soF α fs k) (by omega) (by omega)) h268

set_option maxHeartbeats 4000000 in
set_option maxRecDepth 100000 in
theorem m_acts_4 {l : Launch} {s0 : State} {D : va_G} (h0 : x0 l s0 D) (σ : KS) (gB : xG) {aa sa d0 k : Nat} {α : aA} {fs : Nat → Int32} (hk : k < 30) (hs : gB (100, 0) = some (sa, xAi .int 400 fs)) (hB : ∀ n : xN, 120 ≤ n.1 → n.1 ≤ 141 → gB n = none) (hL0 : gB (2000, 0) = none) (hA : AH gB aa α) (hok : aOk α) (hL : LSt gB α d0 σ) (hFo : KFo s0 gB d0) (hwk : 0 ≤ kI σ 3 0 ∧ kI σ 3 0 ≤ 880) (hst : 0 ≤ kV σ 1 0 3 ∧ kV σ 1 0 3 ≤ 1000) (hcl : soF α fs k = 14) : xMet l s0 D yX0_acts cX0_acts 13 (some .boolean) (xr 58 15200 94500 3500) [.ref (kA σ 0 0), .ref aa, .ref sa, .int (nI k)] (kmix σ gB) (fun r g1 => ∃ ρ, r = some (.int 1) ∧ AR gB α d0 σ ρ ∧ g1 = kmix ρ gB) := by
  have hb0 := hok.1
  have hb1 := hok.2.1
  have hso20 : soF α fs k < 20 := by
    have := (pk_ok (fs (24 + 6 * k)) (n := 20) (by decide) (by decide)).1
    unfold soF
    split
    · split <;> decide
    · exact this
  refine xMet.of h0 (by decide +kernel) rfl ?_
  intro zp ze zs zm za zb zf zc hC hr hnm
  refine x_geq (g' := kmix (kT σ (kL σ 0)) gB) (by rw [kT_self]) ?_
  refine x_new hC (fs := [.int 0, .int 0, .int 0, .int 0, .int 0, .null, .null, .null, .null, .null, .null, .null, .null, .null, .null, .null, .null, .null, .null]) (120, 0) xc_16 q1596 q1597 q113 dX0_acts_0 (q := 3) rfl rfl ((kmix_F _ _ _ rfl).trans (hB (120, 0) (by decide) (by decide))) (fun j hj => by match j, hj with | 0, _ => rfl | 1, _ => rfl | 2, _ => rfl | 3, _ => rfl | 4, _ => rfl | 5, _ => rfl | 6, _ => rfl | 7, _ => rfl | 8, _ => rfl | 9, _ => rfl | 10, _ => rfl | 11, _ => rfl | 12, _ => rfl | 13, _ => rfl | 14, _ => rfl | 15, _ => rfl | 16, _ => rfl | 17, _ => rfl | 18, _ => rfl | j + 19, h => exact absurd h (by omega)) (Nat.le_of_ble_eq_true rfl) (Nat.le_of_ble_eq_true rfl) (fun a_0 => ?_)
  refine x_geq (g' := kmix (kT σ (kL σ 0)) (xu gB (120, 0) (some (a_0, xO 16 [.int 0, .int 0, .int 0, .int 0, .int 0, .null, .null, .null, .null, .null, .null, .null, .null, .null, .null, .null, .null, .null, .null])))) (kmix_xuF _ _ _ _ rfl) ?_
  refine x_dup hC dX0_acts_3 (q := 4) rfl rfl ?_
  refine x_aloadr_n hC dX0_acts_4 (q := 5) rfl rfl ?_
  refine x_aloadr_n hC dX0_acts_5 (q := 6) rfl rfl ?_
  refine x_callI hC xv_X0_267 dX0_acts_6 (q := 9) rfl rfl (m_X19_init h0 σ (xu gB (120, 0) (some (a_0, xO 16 [.int 0, .int 0, .int 0, .int 0, .int 0, .null, .null, .null, .null, .null, .null, .null, .null, .null, .null, .null, .null, .null, .null]))) gB (kL σ 0) (DN_0 hB) (fun n a b => hB n a (by omega)) hL0 hA hok hL.1 hFo hL.2.1 ⟨hwk.1, by omega⟩) rfl (Nat.le_of_ble_eq_true rfl) ⟨(by (try dsimp only); omega), (by (try dsimp only); omega)⟩ ⟨(by (try dsimp only); omega), (by (try dsimp only); omega)⟩ (fun v g1 hp => ?_)
  obtain ⟨f1, y1, gF, I, V, M, rfl, hg1, ⟨ra, rr, hQ⟩, hI, hAI⟩ := hp
  subst hg1
  have hD : DW gF a_0 I V M := hQ.dw
  have hA1 : AH gF aa α := hQ.ah hA
  have hFo1 : KFo s0 gF d0 := hQ.fo hFo
  have hG1 : LSt gF α d0 σ := ⟨hQ.st (fun n a b => hB n a (by omega)) hL.1, hL.2⟩
  have hAF : AF α σ I V M := ⟨hI, hAI⟩
  have h140 : gF (140, 0) = none := (hQ.out _ (Or.inr (by decide))).trans (hB (140, 0) (by decide) (by decide))
  have h141 : gF (141, 0) = none := (hQ.out _ (Or.inr (by decide))).trans (hB (141, 0) (by decide) (by decide))
  have hL01 : gF (2000, 0) = none := (hQ.out _ (Or.inr (by decide))).trans hL0
  have hs1 : gF (100, 0) = some (sa, xAi .int 400 fs) := (hQ.out _ (Or.inl (by decide))).trans hs
  have hsub := hQ.sub (fun n a b => hB n a (by omega))
  clear hQ hI hAI
  refine x_astorer hC dX0_acts_9 (q := 11) rfl rfl ?_
  refine x_aloadr_n hC dX0_acts_11 (q := 12) rfl rfl ?_
  refine x_get hC xf_X0_54_0 dX0_acts_12 (q := 15) rfl (n := (101, 0)) (AHo hA1) rfl ?_
  refine x_meet (pc2 := 47) (S := (fun x : aEnv => ((11801 : Nat), (73019 : Nat), kmix (kT (kIs σ 5 0 y1) x) gF, ([some (.ref (kA σ 0 0)), some (.ref aa), some (.ref sa), some (.int (nI k)), some (.ref a_0), none, none, none, none, none, none, none, none] : xL), ([] : List Value)))) (Inv := fun _ => True) (fun ih => ?_) (fun xx hi => ?_)
  · refine x_if_le hC dX0_acts_15 (q := 18) rfl (tgt := 47) rfl (fun h15 => ?_) (fun h15 => ?_)
    · have hx15 := h15
      exact x_widen (by (try dsimp only); omega) (by (try dsimp only); omega) (ih _ trivial)
    have hK0 : 0 < aI α 1 := Nat.pos_of_ne_zero (fun w => h15 (by rw [w]; decide))
    have hkq : k % aI α 1 < aI α 1 := Nat.mod_lt _ hK0
    refine x_aloadr_n hC dX0_acts_18 (q := 19) rfl rfl ?_
    refine x_aloadr_n hC dX0_acts_19 (q := 20) rfl rfl ?_
    refine x_aloadr hC dX0_acts_20 (q := 22) rfl rfl ?_
    refine x_iload_n hC dX0_acts_22 (q := 23) rfl rfl ?_
    refine x_aloadr_n hC dX0_acts_23 (q := 24) rfl rfl ?_
    refine x_get hC xf_X0_54_0 dX0_acts_24 (q := 27) rfl (n := (101, 0)) (AHo hA1) rfl ?_
    refine x_irem hC dX0_acts_27 (q := 28) rfl (fun w => h15 (by rw [w]; decide)) ?_
    rw [nI_mod (by omega) hK0 (by omega)]
    refine x_iload_n hC dX0_acts_28 (q := 29) rfl rfl ?_
    refine x_iconst hC dX0_acts_29 (q := 30) rfl (v := (5)) (by decide) ?_
    refine x_irem hC dX0_acts_30 (q := 31) rfl (by decide) ?_
    rw [show nI k - nI k / 5 * 5 = nI (k % 5) from nI_mod (b := 5) (by omega) (by decide) (by decide)]
    refine x_if_ne hC dX0_acts_31 (q := 34) rfl (tgt := 38) rfl (fun h31 => ?_) (fun h31 => ?_)
    · have hx31 := h31
      refine x_iconst hC dX0_acts_38 (q := 39) rfl (v := (0)) (by decide) ?_
      refine x_callS hC xv_X0_270 dX0_acts_39 (q := 42) rfl rfl (m_X0_isSafe h0 (kIs σ 5 0 y1) gF f1 hD hA1 hok hL.2.1 (hG1.1.i5 y1) hFo1 (hAF.2.i5 y1) hkq _ (fun _ hro f sf hS => m_X0_isBest h0 (kIs σ 5 0 y1) gF f hD hA1 hok hL.2.1 (hG1.1.i5 y1) hFo1 (hAF.2.i5 y1) hkq hro hS)) rfl (Nat.le_of_ble_eq_true rfl) ⟨(by (try dsimp only); omega), (by (try dsimp only); omega)⟩ ⟨(by (try dsimp only); omega), (by (try dsimp only); omega)⟩ (fun v g1 hp => ?_)
      obtain ⟨f2, rfl, hg1⟩ := hp
      subst hg1
      refine x_if_ne hC dX0_acts_42 (q := 45) rfl (tgt := 47) rfl (fun h42 => ?_) (fun h42 => ?_)
      · have hx42 := h42
        exact x_widen (by (try dsimp only); omega) (by (try dsimp only); omega) (ih _ trivial)
      · exact absurd h42 (by decide)
    have hx31 := h31
    refine x_iconst hC dX0_acts_34 (q := 35) rfl (v := (1)) (by decide) ?_
    refine x_goto hC dX0_acts_35 (tgt := 39) rfl ?_
    refine x_callS hC xv_X0_270 dX0_acts_39 (q := 42) rfl rfl (m_X0_isSafe h0 (kIs σ 5 0 y1) gF f1 hD hA1 hok hL.2.1 (hG1.1.i5 y1) hFo1 (hAF.2.i5 y1) hkq _ (fun _ hro f sf hS => m_X0_isBest h0 (kIs σ 5 0 y1) gF f hD hA1 hok hL.2.1 (hG1.1.i5 y1) hFo1 (hAF.2.i5 y1) hkq hro hS)) rfl (Nat.le_of_ble_eq_true rfl) ⟨(by (try dsimp only); omega), (by (try dsimp only); omega)⟩ ⟨(by (try dsimp only); omega), (by (try dsimp only); omega)⟩ (fun v g1 hp => ?_)
    obtain ⟨f2, rfl, hg1⟩ := hp
    subst hg1
    refine x_if_ne hC dX0_acts_42 (q := 45) rfl (tgt := 47) rfl (fun h42 => ?_) (fun h42 => ?_)
    · have hx42 := h42
      exact x_widen (by (try dsimp only); omega) (by (try dsimp only); omega) (ih _ trivial)
    · exact absurd h42 (by decide)
  obtain ⟨f3, hf3⟩ : ∃ z, z = xx := ⟨_, rfl⟩
  subst hf3
  dsimp only
  refine x_aloadr_n hC dX0_acts_47 (q := 48) rfl rfl ?_
  refine x_get hC xf_X0_60_0 dX0_acts_48 (q := 51) rfl (n := (101, 0)) (AHo hA1) rfl ?_
  refine x_meet (pc2 := 80) (S := (fun x : aEnv × Int => ((12071 : Nat), (74719 : Nat), kmix (kT (kIs σ 5 0 x.2) x.1) gF, ([some (.ref (kA σ 0 0)), some (.ref aa), some (.ref sa), some (.int (nI k)), some (.ref a_0), none, none, none, none, none, none, none, none] : xL), ([] : List Value)))) (Inv := fun _ => True) (fun ih => ?_) (fun xx hi => ?_)
  · refine x_if_le hC dX0_acts_51 (q := 54) rfl (tgt := 80) rfl (fun h51 => ?_) (fun h51 => ?_)
    · have hx51 := h51
      first
        | exact x_widen (by (try dsimp only); omega) (by (try dsimp only); omega) (ih (f3, y1) trivial)
        | (rw [kIs_kIs]; exact x_widen (by (try dsimp only); omega) (by (try dsimp only); omega) (ih (f4, y4) trivial))
    have hn0 : 0 < aI α 0 := Nat.pos_of_ne_zero (fun w => h51 (by rw [w]; decide))
    have hkc : k / 3 % aI α 0 < aI α 0 := Nat.mod_lt _ hn0
    refine x_iload_n hC dX0_acts_54 (q := 55) rfl rfl ?_
    refine x_iconst hC dX0_acts_55 (q := 56) rfl (v := (3)) (by decide) ?_
    refine x_irem hC dX0_acts_56 (q := 57) rfl (by decide) ?_
    rw [show nI k - nI k / 3 * 3 = nI (k % 3) from nI_mod (b := 3) (by omega) (by decide) (by decide)]
    refine x_if_ne hC dX0_acts_57 (q := 60) rfl (tgt := 80) rfl (fun h57 => ?_) (fun h57 => ?_)
    · have hx57 := h57
      first
        | exact x_widen (by (try dsimp only); omega) (by (try dsimp only); omega) (ih (f3, y1) trivial)
        | (rw [kIs_kIs]; exact x_widen (by (try dsimp only); omega) (by (try dsimp only); omega) (ih (f4, y4) trivial))
    have hx57 := h57
    refine x_aloadr_n hC dX0_acts_60 (q := 61) rfl rfl ?_
    refine x_aloadr_n hC dX0_acts_61 (q := 62) rfl rfl ?_
    refine x_aloadr hC dX0_acts_62 (q := 64) rfl rfl ?_
    refine x_iload_n hC dX0_acts_64 (q := 65) rfl rfl ?_
    refine x_iconst hC dX0_acts_65 (q := 66) rfl (v := (3)) (by decide) ?_
    refine x_idiv hC dX0_acts_66 (q := 67) rfl (by decide) ?_
    rw [show nI k / 3 = nI (k / 3) from nI_div (b := 3) (by omega) (by decide) (by decide)]
    refine x_aloadr_n hC dX0_acts_67 (q := 68) rfl rfl ?_
    refine x_get hC xf_X0_60_0 dX0_acts_68 (q := 71) rfl (n := (101, 0)) (AHo hA1) rfl ?_
    refine x_irem hC dX0_acts_71 (q := 72) rfl (fun w => h51 (by rw [w]; decide)) ?_
    rw [nI_mod (by omega) hn0 (by omega)]
    refine x_callS hC xv_X0_274 dX0_acts_72 (q := 75) rfl rfl (m_X0_areOdds h0 (kIs σ 5 0 y1) gF f3 hD hA1 hok (hG1.i5 y1 f3) hFo1 (hAF.bk (Bk.i5 σ y1 f3)) ⟨hwk.1, (show kI σ 3 0 ≤ 900 by omega)⟩ hkc) rfl (Nat.le_of_ble_eq_true rfl) ⟨(by (try dsimp only); omega), (by (try dsimp only); omega)⟩ ⟨(by (try dsimp only); omega), (by (try dsimp only); omega)⟩ (fun v g1 hp => ?_)
    obtain ⟨f4, y4, rfl, hg1⟩ := hp
    subst hg1
    refine x_if_ne hC dX0_acts_75 (q := 78) rfl (tgt := 80) rfl (fun h75 => ?_) (fun h75 => ?_)
    · have hx75 := h75
      first
        | exact x_widen (by (try dsimp only); omega) (by (try dsimp only); omega) (ih (f3, y1) trivial)
        | (rw [kIs_kIs]; exact x_widen (by (try dsimp only); omega) (by (try dsimp only); omega) (ih (f4, y4) trivial))
    · exact absurd h75 (by decide)
  obtain ⟨f5, y5⟩ := xx
  dsimp only
  obtain ⟨τ, hτ⟩ : ∃ τ, τ = kT (kIs σ 5 0 y5) f5 := ⟨_, rfl⟩
  rw [← hτ]
  have hBt : Bk σ τ := by rw [hτ]; exact Bk.i5 σ y5 f5
  have hLt : LSt gF α d0 τ := by rw [hτ]; exact hG1.i5 y5 f5
  have hAt : AF α τ I V M := hAF.bk hBt
  rw [show kA σ 0 0 = kA τ 0 0 from hBt.2.2.2.2.1.symm]
  have hwt : kI τ 3 0 = kI σ 3 0 := hBt.1.1 3 0 rfl
  have hst3 : kV τ 1 0 3 = kV σ 1 0 3 := hBt.2.2.2.1 0 3
  have hsx : kmix τ gF (100, 0) = some (sa, xAi .int 400 fs) := (kmix_F _ _ _ rfl).trans hs1
  clear hτ
  refine x_bipush hC dX0_acts_80 (q := 82) rfl (v := (24)) (by decide) ?_
  refine x_bipush hC dX0_acts_82 (q := 84) rfl (v := (6)) (by decide) ?_
  refine x_iload_n hC dX0_acts_84 (q := 85) rfl rfl ?_
  refine x_imul hC dX0_acts_85 (q := 86) rfl ?_
  refine x_iadd hC dX0_acts_86 (q := 87) rfl ?_
  rw [show (24 : Int32) + 6 * nI k = nI (24 + 6 * k) from by rw [show (24 : Int32) = nI 24 from rfl, show (6 : Int32) = nI 6 from rfl, nI_mu, nI_add]]
  refine x_istore hC dX0_acts_87 (q := 89) rfl rfl ?_
  refine x_aloadr_n hC dX0_acts_89 (q := 90) rfl rfl ?_
  refine x_iload hC dX0_acts_90 (q := 92) rfl rfl ?_
  refine x_bipush hC dX0_acts_92 (q := 94) rfl (v := (20)) (by decide) ?_
  refine x_callS hC xv_X0_277 dX0_acts_94 (q := 97) rfl rfl (m_X0_pick h0 _ hsx (k := 24 + 6 * k) (n := 20) (by omega) (by decide) (by decide)) rfl (Nat.le_of_ble_eq_true rfl) ⟨(by (try dsimp only); omega), (by (try dsimp only); omega)⟩ ⟨(by (try dsimp only); omega), (by (try dsimp only); omega)⟩ (fun v g1 hp => ?_)
  obtain ⟨rfl, hg1⟩ := hp
  replace hg1 := hg1.symm
  subst hg1
  refine x_istore hC dX0_acts_97 (q := 99) rfl rfl ?_
  refine x_aloadr_n hC dX0_acts_99 (q := 100) rfl rfl ?_
  refine x_iload hC dX0_acts_100 (q := 102) rfl rfl ?_
  refine x_iconst hC dX0_acts_102 (q := 103) rfl (v := (1)) (by decide) ?_
  refine x_iadd hC dX0_acts_103 (q := 104) rfl ?_
  rw [show nI (24 + 6 * k) + 1 = nI (24 + 6 * k + 1) from nI_1 _]
  refine x_iconst hC dX0_acts_104 (q := 105) rfl (v := (5)) (by decide) ?_
  refine x_callS hC xv_X0_277 dX0_acts_105 (q := 108) rfl rfl (m_X0_pick h0 _ hsx (k := 24 + 6 * k + 1) (n := 5) (by omega) (by decide) (by decide)) rfl (Nat.le_of_ble_eq_true rfl) ⟨(by (try dsimp only); omega), (by (try dsimp only); omega)⟩ ⟨(by (try dsimp only); omega), (by (try dsimp only); omega)⟩ (fun v g1 hp => ?_)
  obtain ⟨rfl, hg1⟩ := hp
  replace hg1 := hg1.symm
  subst hg1
  refine x_meet (pc2 := 143) (S := (fun x : Int32 => ((12071 : Nat), (74719 : Nat), kmix τ gF, ([some (.ref (kA τ 0 0)), some (.ref aa), some (.ref sa), some (.int (nI k)), some (.ref a_0), some (.int (nI (24 + 6 * k))), some (.int (nI (pk (fs (24 + 6 * k)) 20))), none, none, none, none, none, none] : xL), ([.int x] : List Value)))) (Inv := fun x => ∃ c, c < 1000 ∧ x = nI c) (fun ih => ?_) (fun xx hi => ?_)
  · refine x_if_le hC dX0_acts_108 (q := 111) rfl (tgt := 133) rfl (fun h108 => ?_) (fun h108 => ?_)
    · have hx108 := h108
      refine x_aloadr_n hC dX0_acts_133 (q := 134) rfl rfl ?_
      refine x_iload hC dX0_acts_134 (q := 136) rfl rfl ?_
      refine x_iconst hC dX0_acts_136 (q := 137) rfl (v := (2)) (by decide) ?_
      refine x_iadd hC dX0_acts_137 (q := 138) rfl ?_
      rw [show nI (24 + 6 * k) + 2 = nI (24 + 6 * k + 2) from nI_add _ 2]
      refine x_bipush hC dX0_acts_138 (q := 140) rfl (v := (8)) (by decide) ?_
      refine x_callS hC xv_X0_277 dX0_acts_140 (q := 143) rfl rfl (m_X0_pick h0 _ hsx (k := 24 + 6 * k + 2) (n := 8) (by omega) (by decide) (by decide)) rfl (Nat.le_of_ble_eq_true rfl) ⟨(by (try dsimp only); omega), (by (try dsimp only); omega)⟩ ⟨(by (try dsimp only); omega), (by (try dsimp only); omega)⟩ (fun v g1 hp => ?_)
      obtain ⟨rfl, hg1⟩ := hp
      replace hg1 := hg1.symm
      subst hg1
      exact ih _ ⟨_, pk_b _ (by omega) (by omega), rfl⟩
    have hx108 := h108
    refine x_aloadr_n hC dX0_acts_111 (q := 112) rfl rfl ?_
    refine x_get hC xf_X0_60_0 dX0_acts_112 (q := 115) rfl (n := (101, 0)) (AHo hA1) rfl ?_
    refine x_if_le hC dX0_acts_115 (q := 118) rfl (tgt := 133) rfl (fun h115 => ?_) (fun h115 => ?_)
    · have hx115 := h115
      refine x_aloadr_n hC dX0_acts_133 (q := 134) rfl rfl ?_
      refine x_iload hC dX0_acts_134 (q := 136) rfl rfl ?_
      refine x_iconst hC dX0_acts_136 (q := 137) rfl (v := (2)) (by decide) ?_
      refine x_iadd hC dX0_acts_137 (q := 138) rfl ?_
      rw [show nI (24 + 6 * k) + 2 = nI (24 + 6 * k + 2) from nI_add _ 2]
      refine x_bipush hC dX0_acts_138 (q := 140) rfl (v := (8)) (by decide) ?_
      refine x_callS hC xv_X0_277 dX0_acts_140 (q := 143) rfl rfl (m_X0_pick h0 _ hsx (k := 24 + 6 * k + 2) (n := 8) (by omega) (by decide) (by decide)) rfl (Nat.le_of_ble_eq_true rfl) ⟨(by (try dsimp only); omega), (by (try dsimp only); omega)⟩ ⟨(by (try dsimp only); omega), (by (try dsimp only); omega)⟩ (fun v g1 hp => ?_)
      obtain ⟨rfl, hg1⟩ := hp
      replace hg1 := hg1.symm
      subst hg1
      exact ih _ ⟨_, pk_b _ (by omega) (by omega), rfl⟩
    have hn0 : 0 < aI α 0 := Nat.pos_of_ne_zero (fun w => h115 (by rw [w]; decide))
    refine x_aloadr_n hC dX0_acts_118 (q := 119) rfl rfl ?_
    refine x_iload hC dX0_acts_119 (q := 121) rfl rfl ?_
    refine x_iconst hC dX0_acts_121 (q := 122) rfl (v := (2)) (by decide) ?_
    refine x_iadd hC dX0_acts_122 (q := 123) rfl ?_
    rw [show nI (24 + 6 * k) + 2 = nI (24 + 6 * k + 2) from nI_add _ 2]
    refine x_aloadr_n hC dX0_acts_123 (q := 124) rfl rfl ?_
    refine x_get hC xf_X0_60_0 dX0_acts_124 (q := 127) rfl (n := (101, 0)) (AHo hA1) rfl ?_
    refine x_callS hC xv_X0_277 dX0_acts_127 (q := 130) rfl rfl (m_X0_pick h0 _ hsx (k := 24 + 6 * k + 2) (n := aI α 0) (by omega) hn0 (by omega)) rfl (Nat.le_of_ble_eq_true rfl) ⟨(by (try dsimp only); omega), (by (try dsimp only); omega)⟩ ⟨(by (try dsimp only); omega), (by (try dsimp only); omega)⟩ (fun v g1 hp => ?_)
    obtain ⟨rfl, hg1⟩ := hp
    replace hg1 := hg1.symm
    subst hg1
    refine x_goto hC dX0_acts_130 (tgt := 143) rfl ?_
    exact ih _ ⟨_, pk_b _ (by omega) (by omega), rfl⟩
  obtain ⟨x1, hx1, hxe⟩ := hi
  subst hxe
  dsimp only
  refine x_istore hC dX0_acts_143 (q := 145) rfl rfl ?_
  refine x_aloadr_n hC dX0_acts_145 (q := 146) rfl rfl ?_
  refine x_iload hC dX0_acts_146 (q := 148) rfl rfl ?_
  refine x_iconst hC dX0_acts_148 (q := 149) rfl (v := (3)) (by decide) ?_
  refine x_iadd hC dX0_acts_149 (q := 150) rfl ?_
  rw [show nI (24 + 6 * k) + 3 = nI (24 + 6 * k + 3) from nI_add _ 3]
  refine x_bipush hC dX0_acts_150 (q := 152) rfl (v := (6)) (by decide) ?_
  refine x_callS hC xv_X0_277 dX0_acts_152 (q := 155) rfl rfl (m_X0_pick h0 _ hsx (k := 24 + 6 * k + 3) (n := 6) (by omega) (by decide) (by decide)) rfl (Nat.le_of_ble_eq_true rfl) ⟨(by (try dsimp only); omega), (by (try dsimp only); omega)⟩ ⟨(by (try dsimp only); omega), (by (try dsimp only); omega)⟩ (fun v g1 hp => ?_)
  obtain ⟨rfl, hg1⟩ := hp
  replace hg1 := hg1.symm
  subst hg1
  refine x_meet (pc2 := 189) (S := (fun x : Int32 => ((12071 : Nat), (74719 : Nat), kmix τ gF, ([some (.ref (kA τ 0 0)), some (.ref aa), some (.ref sa), some (.int (nI k)), some (.ref a_0), some (.int (nI (24 + 6 * k))), some (.int (nI (pk (fs (24 + 6 * k)) 20))), some (.int (nI x1)), none, none, none, none, none] : xL), ([.int x] : List Value)))) (Inv := fun x => ∃ c, c < 1000 ∧ x = nI c) (fun ih => ?_) (fun xx hi => ?_)
  · refine x_if_le hC dX0_acts_155 (q := 158) rfl (tgt := 180) rfl (fun h155 => ?_) (fun h155 => ?_)
    · have hx155 := h155
      refine x_aloadr_n hC dX0_acts_180 (q := 181) rfl rfl ?_
      refine x_iload hC dX0_acts_181 (q := 183) rfl rfl ?_
      refine x_iconst hC dX0_acts_183 (q := 184) rfl (v := (4)) (by decide) ?_
      refine x_iadd hC dX0_acts_184 (q := 185) rfl ?_
      rw [show nI (24 + 6 * k) + 4 = nI (24 + 6 * k + 4) from nI_add _ 4]
      refine x_iconst hC dX0_acts_185 (q := 186) rfl (v := (4)) (by decide) ?_
      refine x_callS hC xv_X0_277 dX0_acts_186 (q := 189) rfl rfl (m_X0_pick h0 _ hsx (k := 24 + 6 * k + 4) (n := 4) (by omega) (by decide) (by decide)) rfl (Nat.le_of_ble_eq_true rfl) ⟨(by (try dsimp only); omega), (by (try dsimp only); omega)⟩ ⟨(by (try dsimp only); omega), (by (try dsimp only); omega)⟩ (fun v g1 hp => ?_)
      obtain ⟨rfl, hg1⟩ := hp
      replace hg1 := hg1.symm
      subst hg1
      exact ih _ ⟨_, pk_b _ (by omega) (by omega), rfl⟩
    have hx155 := h155
    refine x_aloadr_n hC dX0_acts_158 (q := 159) rfl rfl ?_
    refine x_get hC xf_X0_54_0 dX0_acts_159 (q := 162) rfl (n := (101, 0)) (AHo hA1) rfl ?_
    refine x_if_le hC dX0_acts_162 (q := 165) rfl (tgt := 180) rfl (fun h162 => ?_) (fun h162 => ?_)
    · have hx162 := h162
      refine x_aloadr_n hC dX0_acts_180 (q := 181) rfl rfl ?_
      refine x_iload hC dX0_acts_181 (q := 183) rfl rfl ?_
      refine x_iconst hC dX0_acts_183 (q := 184) rfl (v := (4)) (by decide) ?_
      refine x_iadd hC dX0_acts_184 (q := 185) rfl ?_
      rw [show nI (24 + 6 * k) + 4 = nI (24 + 6 * k + 4) from nI_add _ 4]
      refine x_iconst hC dX0_acts_185 (q := 186) rfl (v := (4)) (by decide) ?_
      refine x_callS hC xv_X0_277 dX0_acts_186 (q := 189) rfl rfl (m_X0_pick h0 _ hsx (k := 24 + 6 * k + 4) (n := 4) (by omega) (by decide) (by decide)) rfl (Nat.le_of_ble_eq_true rfl) ⟨(by (try dsimp only); omega), (by (try dsimp only); omega)⟩ ⟨(by (try dsimp only); omega), (by (try dsimp only); omega)⟩ (fun v g1 hp => ?_)
      obtain ⟨rfl, hg1⟩ := hp
      replace hg1 := hg1.symm
      subst hg1
      exact ih _ ⟨_, pk_b _ (by omega) (by omega), rfl⟩
    have hK0 : 0 < aI α 1 := Nat.pos_of_ne_zero (fun w => h162 (by rw [w]; decide))
    refine x_aloadr_n hC dX0_acts_165 (q := 166) rfl rfl ?_
    refine x_iload hC dX0_acts_166 (q := 168) rfl rfl ?_
    refine x_iconst hC dX0_acts_168 (q := 169) rfl (v := (4)) (by decide) ?_
    refine x_iadd hC dX0_acts_169 (q := 170) rfl ?_
    rw [show nI (24 + 6 * k) + 4 = nI (24 + 6 * k + 4) from nI_add _ 4]
    refine x_aloadr_n hC dX0_acts_170 (q := 171) rfl rfl ?_
    refine x_get hC xf_X0_54_0 dX0_acts_171 (q := 174) rfl (n := (101, 0)) (AHo hA1) rfl ?_
    refine x_callS hC xv_X0_277 dX0_acts_174 (q := 177) rfl rfl (m_X0_pick h0 _ hsx (k := 24 + 6 * k + 4) (n := aI α 1) (by omega) hK0 (by omega)) rfl (Nat.le_of_ble_eq_true rfl) ⟨(by (try dsimp only); omega), (by (try dsimp only); omega)⟩ ⟨(by (try dsimp only); omega), (by (try dsimp only); omega)⟩ (fun v g1 hp => ?_)
    obtain ⟨rfl, hg1⟩ := hp
    replace hg1 := hg1.symm
    subst hg1
    refine x_goto hC dX0_acts_177 (tgt := 189) rfl ?_
    exact ih _ ⟨_, pk_b _ (by omega) (by omega), rfl⟩
  obtain ⟨y1q, hy1, hye⟩ := hi
  subst hye
  dsimp only
  refine x_istore hC dX0_acts_189 (q := 191) rfl rfl ?_
  refine x_aloadr_n hC dX0_acts_191 (q := 192) rfl rfl ?_
  refine x_iload hC dX0_acts_192 (q := 194) rfl rfl ?_
  refine x_iconst hC dX0_acts_194 (q := 195) rfl (v := (5)) (by decide) ?_
  refine x_iadd hC dX0_acts_195 (q := 196) rfl ?_
  rw [show nI (24 + 6 * k) + 5 = nI (24 + 6 * k + 5) from nI_add _ 5]
  refine x_sipush hC dX0_acts_196 (q := 199) rfl (v := (1000)) (by decide) ?_
  refine x_callS hC xv_X0_277 dX0_acts_199 (q := 202) rfl rfl (m_X0_pick h0 _ hsx (k := 24 + 6 * k + 5) (n := 1000) (by omega) (by decide) (by decide)) rfl (Nat.le_of_ble_eq_true rfl) ⟨(by (try dsimp only); omega), (by (try dsimp only); omega)⟩ ⟨(by (try dsimp only); omega), (by (try dsimp only); omega)⟩ (fun v g1 hp => ?_)
  obtain ⟨rfl, hg1⟩ := hp
  replace hg1 := hg1.symm
  subst hg1
  obtain ⟨zz, hzz⟩ : ∃ zz, zz = pk (fs (24 + 6 * k + 5)) 1000 := ⟨_, rfl⟩
  rw [← hzz]
  have hz1 : zz < 1000 := by rw [hzz]; exact (pk_ok _ (by decide) (by decide)).1
  clear hzz
  have hsubk : aI α 0 ≤ k → nI k - nI (aI α 0) = nI (k - aI α 0) := fun w => by
    rw [← iI_nat, ← iI_nat, ← iI_nat, iI_sub]
    congr 1
    omega
  refine x_istore hC dX0_acts_202 (q := 204) rfl rfl ?_
  refine x_aloadr_n hC dX0_acts_204 (q := 205) rfl rfl ?_
  refine x_get hC xf_X0_54_0 dX0_acts_205 (q := 208) rfl (n := (101, 0)) (AHo hA1) rfl ?_
  refine x_meet (pc2 := 265) (S := (fun x : Nat × Nat => ((12071 : Nat), (74719 : Nat), kmix τ gF, ([some (.ref (kA τ 0 0)), some (.ref aa), some (.ref sa), some (.int (nI k)), some (.ref a_0), some (.int (nI (24 + 6 * k))), some (.int (nI (soF α fs k))), some (.int (nI x.1)), some (.int (nI x.2)), some (.int (nI zz)), none, none, none] : xL), ([] : List Value)))) (Inv := fun x => x.1 < 1000 ∧ x.2 < 1000) (fun ih => ?_) (fun xx hi => ?_)
  · refine x_if_le hC dX0_acts_208 (q := 211) rfl (tgt := 265) rfl (fun h208 => ?_) (fun h208 => ?_)
    · have hso : soF α fs k = pk (fs (24 + 6 * k)) 20 := if_neg (fun w => by
        have := (nI_leI (a := aI α 1) (b := 0) (by omega) (by decide)).mp h208
        omega)
      first
        | (exfalso; omega)
        | (have ih2 := ih (x1, y1q) ⟨hx1, hy1⟩; rw [hso] at ih2; exact ih2)
        | (have ih2 := ih (k, y1q) ⟨by (try dsimp only); omega, hy1⟩; rw [hso] at ih2; exact ih2)
        | (have ih2 := ih (k, k - aI α 0) ⟨by (try dsimp only); omega, by (try dsimp only); omega⟩; rw [hso, ← hsubk hk1] at ih2; exact ih2)
    have hK0 : 0 < aI α 1 := Nat.pos_of_ne_zero (fun w => h208 (by rw [w]; decide))
    refine x_iload_n hC dX0_acts_211 (q := 212) rfl rfl ?_
    refine x_aloadr_n hC dX0_acts_212 (q := 213) rfl rfl ?_
    refine x_get hC xf_X0_60_0 dX0_acts_213 (q := 216) rfl (n := (101, 0)) (AHo hA1) rfl ?_
    refine x_aloadr_n hC dX0_acts_216 (q := 217) rfl rfl ?_
    refine x_get hC xf_X0_54_0 dX0_acts_217 (q := 220) rfl (n := (101, 0)) (AHo hA1) rfl ?_
    refine x_iadd hC dX0_acts_220 (q := 221) rfl ?_
    rw [nI_add]
    refine x_icmp_ge hC dX0_acts_221 (q := 224) rfl (tgt := 265) rfl (fun h221 => ?_) (fun h221 => ?_)
    · have hso : soF α fs k = pk (fs (24 + 6 * k)) 20 := if_neg (fun w => by
        have := (nI_leI (a := aI α 0 + aI α 1) (b := k) (by omega) (by omega)).mp h221
        omega)
      first
        | (exfalso; omega)
        | (have ih2 := ih (x1, y1q) ⟨hx1, hy1⟩; rw [hso] at ih2; exact ih2)
        | (have ih2 := ih (k, y1q) ⟨by (try dsimp only); omega, hy1⟩; rw [hso] at ih2; exact ih2)
        | (have ih2 := ih (k, k - aI α 0) ⟨by (try dsimp only); omega, by (try dsimp only); omega⟩; rw [hso, ← hsubk hk1] at ih2; exact ih2)
    have hks : k < aI α 0 + aI α 1 := Nat.not_le.mp (fun w => h221 (nI_le w (by omega)))
    refine x_iload_n hC dX0_acts_224 (q := 225) rfl rfl ?_
    refine x_aloadr_n hC dX0_acts_225 (q := 226) rfl rfl ?_
    refine x_get hC xf_X0_60_0 dX0_acts_226 (q := 229) rfl (n := (101, 0)) (AHo hA1) rfl ?_
    refine x_icmp_ge hC dX0_acts_229 (q := 232) rfl (tgt := 237) rfl (fun h229 => ?_) (fun h229 => ?_)
    · have hk0 : aI α 0 ≤ k := (nI_leI (by omega) (by omega)).mp h229
      have hso : soF α fs k = 19 := (if_pos ⟨hK0, hks⟩).trans (if_neg (by omega))
      refine x_bipush hC dX0_acts_237 (q := 239) rfl (v := (19)) (by decide) ?_
      refine x_istore hC dX0_acts_239 (q := 241) rfl rfl ?_
      refine x_iload_n hC dX0_acts_241 (q := 242) rfl rfl ?_
      refine x_istore hC dX0_acts_242 (q := 244) rfl rfl ?_
      refine x_iload_n hC dX0_acts_244 (q := 245) rfl rfl ?_
      refine x_aloadr_n hC dX0_acts_245 (q := 246) rfl rfl ?_
      refine x_get hC xf_X0_60_0 dX0_acts_246 (q := 249) rfl (n := (101, 0)) (AHo hA1) rfl ?_
      refine x_icmp_ge hC dX0_acts_249 (q := 252) rfl (tgt := 257) rfl (fun h249 => ?_) (fun h249 => ?_)
      · have hk1 : aI α 0 ≤ k := (nI_leI (by omega) (by omega)).mp h249
        refine x_iload_n hC dX0_acts_257 (q := 258) rfl rfl ?_
        refine x_aloadr_n hC dX0_acts_258 (q := 259) rfl rfl ?_
        refine x_get hC xf_X0_60_0 dX0_acts_259 (q := 262) rfl (n := (101, 0)) (AHo hA1) rfl ?_
        refine x_isub hC dX0_acts_262 (q := 263) rfl ?_
        refine x_istore hC dX0_acts_263 (q := 265) rfl rfl ?_
        first
          | (exfalso; omega)
          | (have ih2 := ih (x1, y1q) ⟨hx1, hy1⟩; rw [hso] at ih2; exact ih2)
          | (have ih2 := ih (k, y1q) ⟨by (try dsimp only); omega, hy1⟩; rw [hso] at ih2; exact ih2)
          | (have ih2 := ih (k, k - aI α 0) ⟨by (try dsimp only); omega, by (try dsimp only); omega⟩; rw [hso, ← hsubk hk1] at ih2; exact ih2)
      have hk1 : k < aI α 0 := Nat.not_le.mp (fun w => h249 (nI_le w (by omega)))
      refine x_iload hC dX0_acts_252 (q := 254) rfl rfl ?_
      refine x_goto hC dX0_acts_254 (tgt := 263) rfl ?_
      refine x_istore hC dX0_acts_263 (q := 265) rfl rfl ?_
      first
        | (exfalso; omega)
        | (have ih2 := ih (x1, y1q) ⟨hx1, hy1⟩; rw [hso] at ih2; exact ih2)
        | (have ih2 := ih (k, y1q) ⟨by (try dsimp only); omega, hy1⟩; rw [hso] at ih2; exact ih2)
        | (have ih2 := ih (k, k - aI α 0) ⟨by (try dsimp only); omega, by (try dsimp only); omega⟩; rw [hso, ← hsubk hk1] at ih2; exact ih2)
    have hk0 : k < aI α 0 := Nat.not_le.mp (fun w => h229 (nI_le w (by omega)))
    have hso : soF α fs k = 8 := (if_pos ⟨hK0, hks⟩).trans (if_pos hk0)
    refine x_bipush hC dX0_acts_232 (q := 234) rfl (v := (8)) (by decide) ?_
    refine x_goto hC dX0_acts_234 (tgt := 239) rfl ?_
    refine x_istore hC dX0_acts_239 (q := 241) rfl rfl ?_
    refine x_iload_n hC dX0_acts_241 (q := 242) rfl rfl ?_
    refine x_istore hC dX0_acts_242 (q := 244) rfl rfl ?_
    refine x_iload_n hC dX0_acts_244 (q := 245) rfl rfl ?_
    refine x_aloadr_n hC dX0_acts_245 (q := 246) rfl rfl ?_
    refine x_get hC xf_X0_60_0 dX0_acts_246 (q := 249) rfl (n := (101, 0)) (AHo hA1) rfl ?_
    refine x_icmp_ge hC dX0_acts_249 (q := 252) rfl (tgt := 257) rfl (fun h249 => ?_) (fun h249 => ?_)
    · have hk1 : aI α 0 ≤ k := (nI_leI (by omega) (by omega)).mp h249
      refine x_iload_n hC dX0_acts_257 (q := 258) rfl rfl ?_
      refine x_aloadr_n hC dX0_acts_258 (q := 259) rfl rfl ?_
      refine x_get hC xf_X0_60_0 dX0_acts_259 (q := 262) rfl (n := (101, 0)) (AHo hA1) rfl ?_
      refine x_isub hC dX0_acts_262 (q := 263) rfl ?_
      refine x_istore hC dX0_acts_263 (q := 265) rfl rfl ?_
      first
        | (exfalso; omega)
        | (have ih2 := ih (x1, y1q) ⟨hx1, hy1⟩; rw [hso] at ih2; exact ih2)
        | (have ih2 := ih (k, y1q) ⟨by (try dsimp only); omega, hy1⟩; rw [hso] at ih2; exact ih2)
        | (have ih2 := ih (k, k - aI α 0) ⟨by (try dsimp only); omega, by (try dsimp only); omega⟩; rw [hso, ← hsubk hk1] at ih2; exact ih2)
    have hk1 : k < aI α 0 := Nat.not_le.mp (fun w => h249 (nI_le w (by omega)))
    refine x_iload hC dX0_acts_252 (q := 254) rfl rfl ?_
    refine x_goto hC dX0_acts_254 (tgt := 263) rfl ?_
    refine x_istore hC dX0_acts_263 (q := 265) rfl rfl ?_
    first
      | (exfalso; omega)
      | (have ih2 := ih (x1, y1q) ⟨hx1, hy1⟩; rw [hso] at ih2; exact ih2)
      | (have ih2 := ih (k, y1q) ⟨by (try dsimp only); omega, hy1⟩; rw [hso] at ih2; exact ih2)
      | (have ih2 := ih (k, k - aI α 0) ⟨by (try dsimp only); omega, by (try dsimp only); omega⟩; rw [hso, ← hsubk hk1] at ih2; exact ih2)
  obtain ⟨x2, y2⟩ := xx
  obtain ⟨hx2, hy2⟩ := hi
  dsimp only at hx2 hy2 ⊢
  refine x_iload hC dX0_acts_265 (q := 267) rfl rfl ?_
  refine x_iconst hC dX0_acts_267 (q := 268) rfl (v := (4)) (by decide) ?_
  refine x_icmp_ge hC dX0_acts_268 (q := 271) rfl (tgt := 279) rfl (fun h268 => ?_) (fun h268 => ?_)
  · have hx268 := h268
    refine x_iload hC dX0_acts_279 (q := 281) rfl rfl ?_
    refine x_bipush hC dX0_acts_281 (q := 283) rfl (v := (6)) (by decide) ?_
    refine x_icmp_ge hC dX0_acts_283 (q := 286) rfl (tgt := 294) rfl (fun h283 => ?_) (fun h283 => ?_)
    · have hx283 := h283
      refine x_iload hC dX0_acts_294 (q := 296) rfl rfl ?_
      refine x_bipush hC dX0_acts_296 (q := 298) rfl (v := (8)) (by decide) ?_
      refine x_icmp_ge hC dX0_acts_298 (q := 301) rfl (tgt := 315) rfl (fun h298 => ?_) (fun h298 => ?_)
      · have hx298 := h298
        refine x_iload hC dX0_acts_315 (q := 317) rfl rfl ?_
        refine x_bipush hC dX0_acts_317 (q := 319) rfl (v := (14)) (by decide) ?_
        refine x_icmp_ge hC dX0_acts_319 (q := 322) rfl (tgt := 326) rfl (fun h319 => ?_) (fun h319 => ?_)
        · have hx319 := h319
          refine x_iload hC dX0_acts_326 (q := 328) rfl rfl ?_
          refine x_bipush hC dX0_acts_328 (q := 330) rfl (v := (15)) (by decide) ?_
          refine x_icmp_ge hC dX0_acts_330 (q := 333) rfl (tgt := 337) rfl (fun h330 => ?_) (fun h330 => ?_)
          · exact absurd ((nI_leI (a := 15) (b := soF α fs k) (by decide) (by omega)).mp h330) (by omega)
          have hx330 := h330
          refine x_iconst hC dX0_acts_333 (q := 334) rfl (v := (1)) (by decide) ?_
          refine x_goto hC dX0_acts_334 (tgt := 338) rfl ?_
          refine x_istore hC dX0_acts_338 (q := 340) rfl rfl ?_
          refine x_iload hC dX0_acts_340 (q := 342) rfl rfl ?_
          refine x_if_ne hC dX0_acts_342 (q := 345) rfl (tgt := 373) rfl (fun h342 => ?_) (fun h342 => ?_)
          · have hx342 := h342
            refine x_iload hC dX0_acts_373 (q := 375) rfl rfl ?_
            refine x_bipush hC dX0_acts_375 (q := 377) rfl (v := (22)) (by decide) ?_
            refine x_irem hC dX0_acts_377 (q := 378) rfl (by decide) ?_
            refine x_iconst hC dX0_acts_378 (q := 379) rfl (v := (1)) (by decide) ?_
            refine x_isub hC dX0_acts_379 (q := 380) rfl ?_
            refine x_istore hC dX0_acts_380 (q := 382) rfl rfl ?_
            refine x_iload hC dX0_acts_382 (q := 384) rfl rfl ?_
            refine x_if_ne hC dX0_acts_384 (q := 387) rfl (tgt := 403) rfl (fun h384 => ?_) (fun h384 => ?_)
            · have hx384 := h384
              refine x_iload hC dX0_acts_403 (q := 405) rfl rfl ?_
              refine x_iconst hC dX0_acts_405 (q := 406) rfl (v := (1)) (by decide) ?_
              refine x_icmp_ne hC dX0_acts_406 (q := 409) rfl (tgt := 421) rfl (fun h406 => ?_) (fun h406 => ?_)
              · exact absurd rfl h406
              have hx406 := h406
              refine x_aloadr_n hC dX0_acts_409 (q := 410) rfl rfl ?_
              refine x_aloadr_n hC dX0_acts_410 (q := 411) rfl rfl ?_
              refine x_aloadr hC dX0_acts_411 (q := 413) rfl rfl ?_
              refine x_iload hC dX0_acts_413 (q := 415) rfl rfl ?_
              refine x_callS hC xv_X0_298 dX0_acts_415 (q := 418) rfl rfl (m_takes h0 τ gF hD hA1 hok hLt hFo1 hAt x2 hx2) rfl (Nat.le_of_ble_eq_true rfl) ⟨(by (try dsimp only); omega), (by (try dsimp only); omega)⟩ ⟨(by (try dsimp only); omega), (by (try dsimp only); omega)⟩ (fun v g1 hp => ?_)
              obtain ⟨ρ, rfl, hg1, hact⟩ := hp
              subst hg1
              have hARr : AR gF α d0 τ ρ := by
                rcases hact with h | ⟨h, -⟩
                · rw [h]; exact AR.rf hLt
                · obtain ⟨-, -, -, -, h2⟩ := h
                  exact h2
              rw [show kA τ 0 0 = kA ρ 0 0 from hARr.2.1.symm]
              refine x_goto hC dX0_acts_418 (tgt := 432) rfl ?_
              refine x_istore hC dX0_acts_432 (q := 434) rfl rfl ?_
              refine x_iload hC dX0_acts_434 (q := 436) rfl rfl ?_
              refine x_if_eq hC dX0_acts_436 (q := 439) rfl (tgt := 474) rfl (fun h436 => ?_) (fun h436 => ?_)
              · exact absurd h436 (by decide)
              refine x_aloadr_n hC dX0_acts_439 (q := 440) rfl rfl ?_
              refine x_iconst hC dX0_acts_440 (q := 441) rfl (v := (3)) (by decide) ?_
              refine x_callV hC xv_X0_185 dX0_acts_441 (q := 444) rfl rfl (m_X2_status h0 ρ gF 3 (by decide)) (nn := (0, 0)) rfl rfl rfl (Nat.le_of_ble_eq_true rfl) ⟨(by (try dsimp only); omega), (by (try dsimp only); omega)⟩ ⟨(by (try dsimp only); omega), (by (try dsimp only); omega)⟩ (fun v g1 hp => ?_)
              obtain ⟨rfl, hg1⟩ := hp
              replace hg1 := hg1.symm
              subst hg1
              refine x_aloadr hC dX0_acts_444 (q := 446) rfl rfl ?_
              refine x_get hC xf_X0_188_16 dX0_acts_446 (q := 449) rfl (n := (120, 0)) (DWo hD) rfl ?_
              rw [show I 3 = iI (kV τ 1 0 3) from hAt.1.2.2.2.1]
              refine x_icmp_gt hC dX0_acts_449 (q := 452) rfl (tgt := 470) rfl (fun h449 => ?_) (fun h449 => ?_)
              · obtain ⟨ρz, hρz⟩ : ∃ z, z = ρ := ⟨_, rfl⟩
                subst hρz
                have hARz := hARr
                refine x_iconst hC dX0_acts_470 (q := 471) rfl (v := (1)) (by decide) ?_
                refine x_goto hC dX0_acts_471 (tgt := 475) rfl ?_
                refine x_sub (g' := kmix ρz gB) (kmix_sub hsub) ?_
                exact x_zret hC hr rfl dX0_acts_475 (by (try dsimp only); omega) (by (try dsimp only); omega) ⟨ρz, rfl, (hARz.bk hBt).dn hL, rfl⟩
              obtain ⟨hDn, hCC⟩ : Dn gF α d0 τ ρ ∧ _ := by
                rcases hact with h | ⟨h, -, h2⟩
                · exact absurd ((iI_lt (a := kV τ 1 0 3) (b := kV ρ 1 0 3) ⟨by omega, by omega⟩ ⟨by rw [h, kRf_3]; omega, by rw [h, kRf_3]; omega⟩).mpr (by rw [h, kRf_3]; omega)) h449
                · exact ⟨h, h2⟩
              refine x_aloadr_n hC dX0_acts_452 (q := 453) rfl rfl ?_
              refine x_aloadr_n hC dX0_acts_453 (q := 454) rfl rfl ?_
              refine x_aloadr hC dX0_acts_454 (q := 456) rfl rfl ?_
              refine x_iload hC dX0_acts_456 (q := 458) rfl rfl ?_
              refine x_iload hC dX0_acts_458 (q := 460) rfl rfl ?_
              refine x_iload hC dX0_acts_460 (q := 462) rfl rfl ?_
              refine x_iload hC dX0_acts_462 (q := 464) rfl rfl ?_
              refine x_callS hC xv_X0_304 dX0_acts_464 (q := 467) rfl rfl (m_undoes_t h0 τ ρ gF hD hA1 hok hLt hFo1 hAt hDn _ _ hCC) rfl (Nat.le_of_ble_eq_true rfl) ⟨(by (try dsimp only); omega), (by (try dsimp only); omega)⟩ ⟨(by (try dsimp only); omega), (by (try dsimp only); omega)⟩ (fun v g1 hp => ?_)
              obtain ⟨ρz, rfl, hARz, hg1⟩ := hp
              subst hg1
              refine x_if_eq hC dX0_acts_467 (q := 470) rfl (tgt := 474) rfl (fun h467 => ?_) (fun h467 => ?_)
              · exact absurd h467 (by decide)
              refine x_iconst hC dX0_acts_470 (q := 471) rfl (v := (1)) (by decide) ?_
              refine x_goto hC dX0_acts_471 (tgt := 475) rfl ?_
              refine x_sub (g' := kmix ρz gB) (kmix_sub hsub) ?_
              exact x_zret hC hr rfl dX0_acts_475 (by (try dsimp only); omega) (by (try dsimp only); omega) ⟨ρz, rfl, (hARz.bk hBt).dn hL, rfl⟩
            · exact absurd h384 (by decide)
          · exact absurd h342 (by decide)
        · exact absurd (nI_le (a := 14) (b := soF α fs k) (by omega) (by omega)) h319
      · exact absurd (nI_le (a := 8) (b := soF α fs k) (by omega) (by omega)) h298
    · exact absurd (nI_le (a := 6) (b := soF α fs k) (by omega) (by omega)) h283
  · exact absurd (nI_le (a := 4) (b := soF α fs k) (by omega) (by omega)) h268

set_option maxHeartbeats 4000000 in
set_option maxRecDepth 100000 in
theorem m_acts_5 {l : Launch} {s0 : State} {D : va_G} (h0 : x0 l s0 D) (σ : KS) (gB : xG) {aa sa d0 k : Nat} {α : aA} {fs : Nat → Int32} (hk : k < 30) (hs : gB (100, 0) = some (sa, xAi .int 400 fs)) (hB : ∀ n : xN, 120 ≤ n.1 → n.1 ≤ 141 → gB n = none) (hL0 : gB (2000, 0) = none) (hA : AH gB aa α) (hok : aOk α) (hL : LSt gB α d0 σ) (hFo : KFo s0 gB d0) (hwk : 0 ≤ kI σ 3 0 ∧ kI σ 3 0 ≤ 880) (hst : 0 ≤ kV σ 1 0 3 ∧ kV σ 1 0 3 ≤ 1000) (hcl : 15 ≤ soF α fs k ∧ soF α fs k < 20) : xMet l s0 D yX0_acts cX0_acts 13 (some .boolean) (xr 58 15200 94500 3500) [.ref (kA σ 0 0), .ref aa, .ref sa, .int (nI k)] (kmix σ gB) (fun r g1 => ∃ ρ, r = some (.int 1) ∧ AR gB α d0 σ ρ ∧ g1 = kmix ρ gB) := by
  have hb0 := hok.1
  have hb1 := hok.2.1
  have hso20 : soF α fs k < 20 := by
    have := (pk_ok (fs (24 + 6 * k)) (n := 20) (by decide) (by decide)).1
    unfold soF
    split
    · split <;> decide
    · exact this
  refine xMet.of h0 (by decide +kernel) rfl ?_
  intro zp ze zs zm za zb zf zc hC hr hnm
  refine x_geq (g' := kmix (kT σ (kL σ 0)) gB) (by rw [kT_self]) ?_
  refine x_new hC (fs := [.int 0, .int 0, .int 0, .int 0, .int 0, .null, .null, .null, .null, .null, .null, .null, .null, .null, .null, .null, .null, .null, .null]) (120, 0) xc_16 q1596 q1597 q113 dX0_acts_0 (q := 3) rfl rfl ((kmix_F _ _ _ rfl).trans (hB (120, 0) (by decide) (by decide))) (fun j hj => by match j, hj with | 0, _ => rfl | 1, _ => rfl | 2, _ => rfl | 3, _ => rfl | 4, _ => rfl | 5, _ => rfl | 6, _ => rfl | 7, _ => rfl | 8, _ => rfl | 9, _ => rfl | 10, _ => rfl | 11, _ => rfl | 12, _ => rfl | 13, _ => rfl | 14, _ => rfl | 15, _ => rfl | 16, _ => rfl | 17, _ => rfl | 18, _ => rfl | j + 19, h => exact absurd h (by omega)) (Nat.le_of_ble_eq_true rfl) (Nat.le_of_ble_eq_true rfl) (fun a_0 => ?_)
  refine x_geq (g' := kmix (kT σ (kL σ 0)) (xu gB (120, 0) (some (a_0, xO 16 [.int 0, .int 0, .int 0, .int 0, .int 0, .null, .null, .null, .null, .null, .null, .null, .null, .null, .null, .null, .null, .null, .null])))) (kmix_xuF _ _ _ _ rfl) ?_
  refine x_dup hC dX0_acts_3 (q := 4) rfl rfl ?_
  refine x_aloadr_n hC dX0_acts_4 (q := 5) rfl rfl ?_
  refine x_aloadr_n hC dX0_acts_5 (q := 6) rfl rfl ?_
  refine x_callI hC xv_X0_267 dX0_acts_6 (q := 9) rfl rfl (m_X19_init h0 σ (xu gB (120, 0) (some (a_0, xO 16 [.int 0, .int 0, .int 0, .int 0, .int 0, .null, .null, .null, .null, .null, .null, .null, .null, .null, .null, .null, .null, .null, .null]))) gB (kL σ 0) (DN_0 hB) (fun n a b => hB n a (by omega)) hL0 hA hok hL.1 hFo hL.2.1 ⟨hwk.1, by omega⟩) rfl (Nat.le_of_ble_eq_true rfl) ⟨(by (try dsimp only); omega), (by (try dsimp only); omega)⟩ ⟨(by (try dsimp only); omega), (by (try dsimp only); omega)⟩ (fun v g1 hp => ?_)
  obtain ⟨f1, y1, gF, I, V, M, rfl, hg1, ⟨ra, rr, hQ⟩, hI, hAI⟩ := hp
  subst hg1
  have hD : DW gF a_0 I V M := hQ.dw
  have hA1 : AH gF aa α := hQ.ah hA
  have hFo1 : KFo s0 gF d0 := hQ.fo hFo
  have hG1 : LSt gF α d0 σ := ⟨hQ.st (fun n a b => hB n a (by omega)) hL.1, hL.2⟩
  have hAF : AF α σ I V M := ⟨hI, hAI⟩
  have h140 : gF (140, 0) = none := (hQ.out _ (Or.inr (by decide))).trans (hB (140, 0) (by decide) (by decide))
  have h141 : gF (141, 0) = none := (hQ.out _ (Or.inr (by decide))).trans (hB (141, 0) (by decide) (by decide))
  have hL01 : gF (2000, 0) = none := (hQ.out _ (Or.inr (by decide))).trans hL0
  have hs1 : gF (100, 0) = some (sa, xAi .int 400 fs) := (hQ.out _ (Or.inl (by decide))).trans hs
  have hsub := hQ.sub (fun n a b => hB n a (by omega))
  clear hQ hI hAI
  refine x_astorer hC dX0_acts_9 (q := 11) rfl rfl ?_
  refine x_aloadr_n hC dX0_acts_11 (q := 12) rfl rfl ?_
  refine x_get hC xf_X0_54_0 dX0_acts_12 (q := 15) rfl (n := (101, 0)) (AHo hA1) rfl ?_
  refine x_meet (pc2 := 47) (S := (fun x : aEnv => ((11801 : Nat), (73019 : Nat), kmix (kT (kIs σ 5 0 y1) x) gF, ([some (.ref (kA σ 0 0)), some (.ref aa), some (.ref sa), some (.int (nI k)), some (.ref a_0), none, none, none, none, none, none, none, none] : xL), ([] : List Value)))) (Inv := fun _ => True) (fun ih => ?_) (fun xx hi => ?_)
  · refine x_if_le hC dX0_acts_15 (q := 18) rfl (tgt := 47) rfl (fun h15 => ?_) (fun h15 => ?_)
    · have hx15 := h15
      exact x_widen (by (try dsimp only); omega) (by (try dsimp only); omega) (ih _ trivial)
    have hK0 : 0 < aI α 1 := Nat.pos_of_ne_zero (fun w => h15 (by rw [w]; decide))
    have hkq : k % aI α 1 < aI α 1 := Nat.mod_lt _ hK0
    refine x_aloadr_n hC dX0_acts_18 (q := 19) rfl rfl ?_
    refine x_aloadr_n hC dX0_acts_19 (q := 20) rfl rfl ?_
    refine x_aloadr hC dX0_acts_20 (q := 22) rfl rfl ?_
    refine x_iload_n hC dX0_acts_22 (q := 23) rfl rfl ?_
    refine x_aloadr_n hC dX0_acts_23 (q := 24) rfl rfl ?_
    refine x_get hC xf_X0_54_0 dX0_acts_24 (q := 27) rfl (n := (101, 0)) (AHo hA1) rfl ?_
    refine x_irem hC dX0_acts_27 (q := 28) rfl (fun w => h15 (by rw [w]; decide)) ?_
    rw [nI_mod (by omega) hK0 (by omega)]
    refine x_iload_n hC dX0_acts_28 (q := 29) rfl rfl ?_
    refine x_iconst hC dX0_acts_29 (q := 30) rfl (v := (5)) (by decide) ?_
    refine x_irem hC dX0_acts_30 (q := 31) rfl (by decide) ?_
    rw [show nI k - nI k / 5 * 5 = nI (k % 5) from nI_mod (b := 5) (by omega) (by decide) (by decide)]
    refine x_if_ne hC dX0_acts_31 (q := 34) rfl (tgt := 38) rfl (fun h31 => ?_) (fun h31 => ?_)
    · have hx31 := h31
      refine x_iconst hC dX0_acts_38 (q := 39) rfl (v := (0)) (by decide) ?_
      refine x_callS hC xv_X0_270 dX0_acts_39 (q := 42) rfl rfl (m_X0_isSafe h0 (kIs σ 5 0 y1) gF f1 hD hA1 hok hL.2.1 (hG1.1.i5 y1) hFo1 (hAF.2.i5 y1) hkq _ (fun _ hro f sf hS => m_X0_isBest h0 (kIs σ 5 0 y1) gF f hD hA1 hok hL.2.1 (hG1.1.i5 y1) hFo1 (hAF.2.i5 y1) hkq hro hS)) rfl (Nat.le_of_ble_eq_true rfl) ⟨(by (try dsimp only); omega), (by (try dsimp only); omega)⟩ ⟨(by (try dsimp only); omega), (by (try dsimp only); omega)⟩ (fun v g1 hp => ?_)
      obtain ⟨f2, rfl, hg1⟩ := hp
      subst hg1
      refine x_if_ne hC dX0_acts_42 (q := 45) rfl (tgt := 47) rfl (fun h42 => ?_) (fun h42 => ?_)
      · have hx42 := h42
        exact x_widen (by (try dsimp only); omega) (by (try dsimp only); omega) (ih _ trivial)
      · exact absurd h42 (by decide)
    have hx31 := h31
    refine x_iconst hC dX0_acts_34 (q := 35) rfl (v := (1)) (by decide) ?_
    refine x_goto hC dX0_acts_35 (tgt := 39) rfl ?_
    refine x_callS hC xv_X0_270 dX0_acts_39 (q := 42) rfl rfl (m_X0_isSafe h0 (kIs σ 5 0 y1) gF f1 hD hA1 hok hL.2.1 (hG1.1.i5 y1) hFo1 (hAF.2.i5 y1) hkq _ (fun _ hro f sf hS => m_X0_isBest h0 (kIs σ 5 0 y1) gF f hD hA1 hok hL.2.1 (hG1.1.i5 y1) hFo1 (hAF.2.i5 y1) hkq hro hS)) rfl (Nat.le_of_ble_eq_true rfl) ⟨(by (try dsimp only); omega), (by (try dsimp only); omega)⟩ ⟨(by (try dsimp only); omega), (by (try dsimp only); omega)⟩ (fun v g1 hp => ?_)
    obtain ⟨f2, rfl, hg1⟩ := hp
    subst hg1
    refine x_if_ne hC dX0_acts_42 (q := 45) rfl (tgt := 47) rfl (fun h42 => ?_) (fun h42 => ?_)
    · have hx42 := h42
      exact x_widen (by (try dsimp only); omega) (by (try dsimp only); omega) (ih _ trivial)
    · exact absurd h42 (by decide)
  obtain ⟨f3, hf3⟩ : ∃ z, z = xx := ⟨_, rfl⟩
  subst hf3
  dsimp only
  refine x_aloadr_n hC dX0_acts_47 (q := 48) rfl rfl ?_
  refine x_get hC xf_X0_60_0 dX0_acts_48 (q := 51) rfl (n := (101, 0)) (AHo hA1) rfl ?_
  refine x_meet (pc2 := 80) (S := (fun x : aEnv × Int => ((12071 : Nat), (74719 : Nat), kmix (kT (kIs σ 5 0 x.2) x.1) gF, ([some (.ref (kA σ 0 0)), some (.ref aa), some (.ref sa), some (.int (nI k)), some (.ref a_0), none, none, none, none, none, none, none, none] : xL), ([] : List Value)))) (Inv := fun _ => True) (fun ih => ?_) (fun xx hi => ?_)
  · refine x_if_le hC dX0_acts_51 (q := 54) rfl (tgt := 80) rfl (fun h51 => ?_) (fun h51 => ?_)
    · have hx51 := h51
      first
        | exact x_widen (by (try dsimp only); omega) (by (try dsimp only); omega) (ih (f3, y1) trivial)
        | (rw [kIs_kIs]; exact x_widen (by (try dsimp only); omega) (by (try dsimp only); omega) (ih (f4, y4) trivial))
    have hn0 : 0 < aI α 0 := Nat.pos_of_ne_zero (fun w => h51 (by rw [w]; decide))
    have hkc : k / 3 % aI α 0 < aI α 0 := Nat.mod_lt _ hn0
    refine x_iload_n hC dX0_acts_54 (q := 55) rfl rfl ?_
    refine x_iconst hC dX0_acts_55 (q := 56) rfl (v := (3)) (by decide) ?_
    refine x_irem hC dX0_acts_56 (q := 57) rfl (by decide) ?_
    rw [show nI k - nI k / 3 * 3 = nI (k % 3) from nI_mod (b := 3) (by omega) (by decide) (by decide)]
    refine x_if_ne hC dX0_acts_57 (q := 60) rfl (tgt := 80) rfl (fun h57 => ?_) (fun h57 => ?_)
    · have hx57 := h57
      first
        | exact x_widen (by (try dsimp only); omega) (by (try dsimp only); omega) (ih (f3, y1) trivial)
        | (rw [kIs_kIs]; exact x_widen (by (try dsimp only); omega) (by (try dsimp only); omega) (ih (f4, y4) trivial))
    have hx57 := h57
    refine x_aloadr_n hC dX0_acts_60 (q := 61) rfl rfl ?_
    refine x_aloadr_n hC dX0_acts_61 (q := 62) rfl rfl ?_
    refine x_aloadr hC dX0_acts_62 (q := 64) rfl rfl ?_
    refine x_iload_n hC dX0_acts_64 (q := 65) rfl rfl ?_
    refine x_iconst hC dX0_acts_65 (q := 66) rfl (v := (3)) (by decide) ?_
    refine x_idiv hC dX0_acts_66 (q := 67) rfl (by decide) ?_
    rw [show nI k / 3 = nI (k / 3) from nI_div (b := 3) (by omega) (by decide) (by decide)]
    refine x_aloadr_n hC dX0_acts_67 (q := 68) rfl rfl ?_
    refine x_get hC xf_X0_60_0 dX0_acts_68 (q := 71) rfl (n := (101, 0)) (AHo hA1) rfl ?_
    refine x_irem hC dX0_acts_71 (q := 72) rfl (fun w => h51 (by rw [w]; decide)) ?_
    rw [nI_mod (by omega) hn0 (by omega)]
    refine x_callS hC xv_X0_274 dX0_acts_72 (q := 75) rfl rfl (m_X0_areOdds h0 (kIs σ 5 0 y1) gF f3 hD hA1 hok (hG1.i5 y1 f3) hFo1 (hAF.bk (Bk.i5 σ y1 f3)) ⟨hwk.1, (show kI σ 3 0 ≤ 900 by omega)⟩ hkc) rfl (Nat.le_of_ble_eq_true rfl) ⟨(by (try dsimp only); omega), (by (try dsimp only); omega)⟩ ⟨(by (try dsimp only); omega), (by (try dsimp only); omega)⟩ (fun v g1 hp => ?_)
    obtain ⟨f4, y4, rfl, hg1⟩ := hp
    subst hg1
    refine x_if_ne hC dX0_acts_75 (q := 78) rfl (tgt := 80) rfl (fun h75 => ?_) (fun h75 => ?_)
    · have hx75 := h75
      first
        | exact x_widen (by (try dsimp only); omega) (by (try dsimp only); omega) (ih (f3, y1) trivial)
        | (rw [kIs_kIs]; exact x_widen (by (try dsimp only); omega) (by (try dsimp only); omega) (ih (f4, y4) trivial))
    · exact absurd h75 (by decide)
  obtain ⟨f5, y5⟩ := xx
  dsimp only
  obtain ⟨τ, hτ⟩ : ∃ τ, τ = kT (kIs σ 5 0 y5) f5 := ⟨_, rfl⟩
  rw [← hτ]
  have hBt : Bk σ τ := by rw [hτ]; exact Bk.i5 σ y5 f5
  have hLt : LSt gF α d0 τ := by rw [hτ]; exact hG1.i5 y5 f5
  have hAt : AF α τ I V M := hAF.bk hBt
  rw [show kA σ 0 0 = kA τ 0 0 from hBt.2.2.2.2.1.symm]
  have hwt : kI τ 3 0 = kI σ 3 0 := hBt.1.1 3 0 rfl
  have hst3 : kV τ 1 0 3 = kV σ 1 0 3 := hBt.2.2.2.1 0 3
  have hsx : kmix τ gF (100, 0) = some (sa, xAi .int 400 fs) := (kmix_F _ _ _ rfl).trans hs1
  clear hτ
  refine x_bipush hC dX0_acts_80 (q := 82) rfl (v := (24)) (by decide) ?_
  refine x_bipush hC dX0_acts_82 (q := 84) rfl (v := (6)) (by decide) ?_
  refine x_iload_n hC dX0_acts_84 (q := 85) rfl rfl ?_
  refine x_imul hC dX0_acts_85 (q := 86) rfl ?_
  refine x_iadd hC dX0_acts_86 (q := 87) rfl ?_
  rw [show (24 : Int32) + 6 * nI k = nI (24 + 6 * k) from by rw [show (24 : Int32) = nI 24 from rfl, show (6 : Int32) = nI 6 from rfl, nI_mu, nI_add]]
  refine x_istore hC dX0_acts_87 (q := 89) rfl rfl ?_
  refine x_aloadr_n hC dX0_acts_89 (q := 90) rfl rfl ?_
  refine x_iload hC dX0_acts_90 (q := 92) rfl rfl ?_
  refine x_bipush hC dX0_acts_92 (q := 94) rfl (v := (20)) (by decide) ?_
  refine x_callS hC xv_X0_277 dX0_acts_94 (q := 97) rfl rfl (m_X0_pick h0 _ hsx (k := 24 + 6 * k) (n := 20) (by omega) (by decide) (by decide)) rfl (Nat.le_of_ble_eq_true rfl) ⟨(by (try dsimp only); omega), (by (try dsimp only); omega)⟩ ⟨(by (try dsimp only); omega), (by (try dsimp only); omega)⟩ (fun v g1 hp => ?_)
  obtain ⟨rfl, hg1⟩ := hp
  replace hg1 := hg1.symm
  subst hg1
  refine x_istore hC dX0_acts_97 (q := 99) rfl rfl ?_
  refine x_aloadr_n hC dX0_acts_99 (q := 100) rfl rfl ?_
  refine x_iload hC dX0_acts_100 (q := 102) rfl rfl ?_
  refine x_iconst hC dX0_acts_102 (q := 103) rfl (v := (1)) (by decide) ?_
  refine x_iadd hC dX0_acts_103 (q := 104) rfl ?_
  rw [show nI (24 + 6 * k) + 1 = nI (24 + 6 * k + 1) from nI_1 _]
  refine x_iconst hC dX0_acts_104 (q := 105) rfl (v := (5)) (by decide) ?_
  refine x_callS hC xv_X0_277 dX0_acts_105 (q := 108) rfl rfl (m_X0_pick h0 _ hsx (k := 24 + 6 * k + 1) (n := 5) (by omega) (by decide) (by decide)) rfl (Nat.le_of_ble_eq_true rfl) ⟨(by (try dsimp only); omega), (by (try dsimp only); omega)⟩ ⟨(by (try dsimp only); omega), (by (try dsimp only); omega)⟩ (fun v g1 hp => ?_)
  obtain ⟨rfl, hg1⟩ := hp
  replace hg1 := hg1.symm
  subst hg1
  refine x_meet (pc2 := 143) (S := (fun x : Int32 => ((12071 : Nat), (74719 : Nat), kmix τ gF, ([some (.ref (kA τ 0 0)), some (.ref aa), some (.ref sa), some (.int (nI k)), some (.ref a_0), some (.int (nI (24 + 6 * k))), some (.int (nI (pk (fs (24 + 6 * k)) 20))), none, none, none, none, none, none] : xL), ([.int x] : List Value)))) (Inv := fun x => ∃ c, c < 1000 ∧ x = nI c) (fun ih => ?_) (fun xx hi => ?_)
  · refine x_if_le hC dX0_acts_108 (q := 111) rfl (tgt := 133) rfl (fun h108 => ?_) (fun h108 => ?_)
    · have hx108 := h108
      refine x_aloadr_n hC dX0_acts_133 (q := 134) rfl rfl ?_
      refine x_iload hC dX0_acts_134 (q := 136) rfl rfl ?_
      refine x_iconst hC dX0_acts_136 (q := 137) rfl (v := (2)) (by decide) ?_
      refine x_iadd hC dX0_acts_137 (q := 138) rfl ?_
      rw [show nI (24 + 6 * k) + 2 = nI (24 + 6 * k + 2) from nI_add _ 2]
      refine x_bipush hC dX0_acts_138 (q := 140) rfl (v := (8)) (by decide) ?_
      refine x_callS hC xv_X0_277 dX0_acts_140 (q := 143) rfl rfl (m_X0_pick h0 _ hsx (k := 24 + 6 * k + 2) (n := 8) (by omega) (by decide) (by decide)) rfl (Nat.le_of_ble_eq_true rfl) ⟨(by (try dsimp only); omega), (by (try dsimp only); omega)⟩ ⟨(by (try dsimp only); omega), (by (try dsimp only); omega)⟩ (fun v g1 hp => ?_)
      obtain ⟨rfl, hg1⟩ := hp
      replace hg1 := hg1.symm
      subst hg1
      exact ih _ ⟨_, pk_b _ (by omega) (by omega), rfl⟩
    have hx108 := h108
    refine x_aloadr_n hC dX0_acts_111 (q := 112) rfl rfl ?_
    refine x_get hC xf_X0_60_0 dX0_acts_112 (q := 115) rfl (n := (101, 0)) (AHo hA1) rfl ?_
    refine x_if_le hC dX0_acts_115 (q := 118) rfl (tgt := 133) rfl (fun h115 => ?_) (fun h115 => ?_)
    · have hx115 := h115
      refine x_aloadr_n hC dX0_acts_133 (q := 134) rfl rfl ?_
      refine x_iload hC dX0_acts_134 (q := 136) rfl rfl ?_
      refine x_iconst hC dX0_acts_136 (q := 137) rfl (v := (2)) (by decide) ?_
      refine x_iadd hC dX0_acts_137 (q := 138) rfl ?_
      rw [show nI (24 + 6 * k) + 2 = nI (24 + 6 * k + 2) from nI_add _ 2]
      refine x_bipush hC dX0_acts_138 (q := 140) rfl (v := (8)) (by decide) ?_
      refine x_callS hC xv_X0_277 dX0_acts_140 (q := 143) rfl rfl (m_X0_pick h0 _ hsx (k := 24 + 6 * k + 2) (n := 8) (by omega) (by decide) (by decide)) rfl (Nat.le_of_ble_eq_true rfl) ⟨(by (try dsimp only); omega), (by (try dsimp only); omega)⟩ ⟨(by (try dsimp only); omega), (by (try dsimp only); omega)⟩ (fun v g1 hp => ?_)
      obtain ⟨rfl, hg1⟩ := hp
      replace hg1 := hg1.symm
      subst hg1
      exact ih _ ⟨_, pk_b _ (by omega) (by omega), rfl⟩
    have hn0 : 0 < aI α 0 := Nat.pos_of_ne_zero (fun w => h115 (by rw [w]; decide))
    refine x_aloadr_n hC dX0_acts_118 (q := 119) rfl rfl ?_
    refine x_iload hC dX0_acts_119 (q := 121) rfl rfl ?_
    refine x_iconst hC dX0_acts_121 (q := 122) rfl (v := (2)) (by decide) ?_
    refine x_iadd hC dX0_acts_122 (q := 123) rfl ?_
    rw [show nI (24 + 6 * k) + 2 = nI (24 + 6 * k + 2) from nI_add _ 2]
    refine x_aloadr_n hC dX0_acts_123 (q := 124) rfl rfl ?_
    refine x_get hC xf_X0_60_0 dX0_acts_124 (q := 127) rfl (n := (101, 0)) (AHo hA1) rfl ?_
    refine x_callS hC xv_X0_277 dX0_acts_127 (q := 130) rfl rfl (m_X0_pick h0 _ hsx (k := 24 + 6 * k + 2) (n := aI α 0) (by omega) hn0 (by omega)) rfl (Nat.le_of_ble_eq_true rfl) ⟨(by (try dsimp only); omega), (by (try dsimp only); omega)⟩ ⟨(by (try dsimp only); omega), (by (try dsimp only); omega)⟩ (fun v g1 hp => ?_)
    obtain ⟨rfl, hg1⟩ := hp
    replace hg1 := hg1.symm
    subst hg1
    refine x_goto hC dX0_acts_130 (tgt := 143) rfl ?_
    exact ih _ ⟨_, pk_b _ (by omega) (by omega), rfl⟩
  obtain ⟨x1, hx1, hxe⟩ := hi
  subst hxe
  dsimp only
  refine x_istore hC dX0_acts_143 (q := 145) rfl rfl ?_
  refine x_aloadr_n hC dX0_acts_145 (q := 146) rfl rfl ?_
  refine x_iload hC dX0_acts_146 (q := 148) rfl rfl ?_
  refine x_iconst hC dX0_acts_148 (q := 149) rfl (v := (3)) (by decide) ?_
  refine x_iadd hC dX0_acts_149 (q := 150) rfl ?_
  rw [show nI (24 + 6 * k) + 3 = nI (24 + 6 * k + 3) from nI_add _ 3]
  refine x_bipush hC dX0_acts_150 (q := 152) rfl (v := (6)) (by decide) ?_
  refine x_callS hC xv_X0_277 dX0_acts_152 (q := 155) rfl rfl (m_X0_pick h0 _ hsx (k := 24 + 6 * k + 3) (n := 6) (by omega) (by decide) (by decide)) rfl (Nat.le_of_ble_eq_true rfl) ⟨(by (try dsimp only); omega), (by (try dsimp only); omega)⟩ ⟨(by (try dsimp only); omega), (by (try dsimp only); omega)⟩ (fun v g1 hp => ?_)
  obtain ⟨rfl, hg1⟩ := hp
  replace hg1 := hg1.symm
  subst hg1
  refine x_meet (pc2 := 189) (S := (fun x : Int32 => ((12071 : Nat), (74719 : Nat), kmix τ gF, ([some (.ref (kA τ 0 0)), some (.ref aa), some (.ref sa), some (.int (nI k)), some (.ref a_0), some (.int (nI (24 + 6 * k))), some (.int (nI (pk (fs (24 + 6 * k)) 20))), some (.int (nI x1)), none, none, none, none, none] : xL), ([.int x] : List Value)))) (Inv := fun x => ∃ c, c < 1000 ∧ x = nI c) (fun ih => ?_) (fun xx hi => ?_)
  · refine x_if_le hC dX0_acts_155 (q := 158) rfl (tgt := 180) rfl (fun h155 => ?_) (fun h155 => ?_)
    · have hx155 := h155
      refine x_aloadr_n hC dX0_acts_180 (q := 181) rfl rfl ?_
      refine x_iload hC dX0_acts_181 (q := 183) rfl rfl ?_
      refine x_iconst hC dX0_acts_183 (q := 184) rfl (v := (4)) (by decide) ?_
      refine x_iadd hC dX0_acts_184 (q := 185) rfl ?_
      rw [show nI (24 + 6 * k) + 4 = nI (24 + 6 * k + 4) from nI_add _ 4]
      refine x_iconst hC dX0_acts_185 (q := 186) rfl (v := (4)) (by decide) ?_
      refine x_callS hC xv_X0_277 dX0_acts_186 (q := 189) rfl rfl (m_X0_pick h0 _ hsx (k := 24 + 6 * k + 4) (n := 4) (by omega) (by decide) (by decide)) rfl (Nat.le_of_ble_eq_true rfl) ⟨(by (try dsimp only); omega), (by (try dsimp only); omega)⟩ ⟨(by (try dsimp only); omega), (by (try dsimp only); omega)⟩ (fun v g1 hp => ?_)
      obtain ⟨rfl, hg1⟩ := hp
      replace hg1 := hg1.symm
      subst hg1
      exact ih _ ⟨_, pk_b _ (by omega) (by omega), rfl⟩
    have hx155 := h155
    refine x_aloadr_n hC dX0_acts_158 (q := 159) rfl rfl ?_
    refine x_get hC xf_X0_54_0 dX0_acts_159 (q := 162) rfl (n := (101, 0)) (AHo hA1) rfl ?_
    refine x_if_le hC dX0_acts_162 (q := 165) rfl (tgt := 180) rfl (fun h162 => ?_) (fun h162 => ?_)
    · have hx162 := h162
      refine x_aloadr_n hC dX0_acts_180 (q := 181) rfl rfl ?_
      refine x_iload hC dX0_acts_181 (q := 183) rfl rfl ?_
      refine x_iconst hC dX0_acts_183 (q := 184) rfl (v := (4)) (by decide) ?_
      refine x_iadd hC dX0_acts_184 (q := 185) rfl ?_
      rw [show nI (24 + 6 * k) + 4 = nI (24 + 6 * k + 4) from nI_add _ 4]
      refine x_iconst hC dX0_acts_185 (q := 186) rfl (v := (4)) (by decide) ?_
      refine x_callS hC xv_X0_277 dX0_acts_186 (q := 189) rfl rfl (m_X0_pick h0 _ hsx (k := 24 + 6 * k + 4) (n := 4) (by omega) (by decide) (by decide)) rfl (Nat.le_of_ble_eq_true rfl) ⟨(by (try dsimp only); omega), (by (try dsimp only); omega)⟩ ⟨(by (try dsimp only); omega), (by (try dsimp only); omega)⟩ (fun v g1 hp => ?_)
      obtain ⟨rfl, hg1⟩ := hp
      replace hg1 := hg1.symm
      subst hg1
      exact ih _ ⟨_, pk_b _ (by omega) (by omega), rfl⟩
    have hK0 : 0 < aI α 1 := Nat.pos_of_ne_zero (fun w => h162 (by rw [w]; decide))
    refine x_aloadr_n hC dX0_acts_165 (q := 166) rfl rfl ?_
    refine x_iload hC dX0_acts_166 (q := 168) rfl rfl ?_
    refine x_iconst hC dX0_acts_168 (q := 169) rfl (v := (4)) (by decide) ?_
    refine x_iadd hC dX0_acts_169 (q := 170) rfl ?_
    rw [show nI (24 + 6 * k) + 4 = nI (24 + 6 * k + 4) from nI_add _ 4]
    refine x_aloadr_n hC dX0_acts_170 (q := 171) rfl rfl ?_
    refine x_get hC xf_X0_54_0 dX0_acts_171 (q := 174) rfl (n := (101, 0)) (AHo hA1) rfl ?_
    refine x_callS hC xv_X0_277 dX0_acts_174 (q := 177) rfl rfl (m_X0_pick h0 _ hsx (k := 24 + 6 * k + 4) (n := aI α 1) (by omega) hK0 (by omega)) rfl (Nat.le_of_ble_eq_true rfl) ⟨(by (try dsimp only); omega), (by (try dsimp only); omega)⟩ ⟨(by (try dsimp only); omega), (by (try dsimp only); omega)⟩ (fun v g1 hp => ?_)
    obtain ⟨rfl, hg1⟩ := hp
    replace hg1 := hg1.symm
    subst hg1
    refine x_goto hC dX0_acts_177 (tgt := 189) rfl ?_
    exact ih _ ⟨_, pk_b _ (by omega) (by omega), rfl⟩
  obtain ⟨y1q, hy1, hye⟩ := hi
  subst hye
  dsimp only
  refine x_istore hC dX0_acts_189 (q := 191) rfl rfl ?_
  refine x_aloadr_n hC dX0_acts_191 (q := 192) rfl rfl ?_
  refine x_iload hC dX0_acts_192 (q := 194) rfl rfl ?_
  refine x_iconst hC dX0_acts_194 (q := 195) rfl (v := (5)) (by decide) ?_
  refine x_iadd hC dX0_acts_195 (q := 196) rfl ?_
  rw [show nI (24 + 6 * k) + 5 = nI (24 + 6 * k + 5) from nI_add _ 5]
  refine x_sipush hC dX0_acts_196 (q := 199) rfl (v := (1000)) (by decide) ?_
  refine x_callS hC xv_X0_277 dX0_acts_199 (q := 202) rfl rfl (m_X0_pick h0 _ hsx (k := 24 + 6 * k + 5) (n := 1000) (by omega) (by decide) (by decide)) rfl (Nat.le_of_ble_eq_true rfl) ⟨(by (try dsimp only); omega), (by (try dsimp only); omega)⟩ ⟨(by (try dsimp only); omega), (by (try dsimp only); omega)⟩ (fun v g1 hp => ?_)
  obtain ⟨rfl, hg1⟩ := hp
  replace hg1 := hg1.symm
  subst hg1
  obtain ⟨zz, hzz⟩ : ∃ zz, zz = pk (fs (24 + 6 * k + 5)) 1000 := ⟨_, rfl⟩
  rw [← hzz]
  have hz1 : zz < 1000 := by rw [hzz]; exact (pk_ok _ (by decide) (by decide)).1
  clear hzz
  have hsubk : aI α 0 ≤ k → nI k - nI (aI α 0) = nI (k - aI α 0) := fun w => by
    rw [← iI_nat, ← iI_nat, ← iI_nat, iI_sub]
    congr 1
    omega
  refine x_istore hC dX0_acts_202 (q := 204) rfl rfl ?_
  refine x_aloadr_n hC dX0_acts_204 (q := 205) rfl rfl ?_
  refine x_get hC xf_X0_54_0 dX0_acts_205 (q := 208) rfl (n := (101, 0)) (AHo hA1) rfl ?_
  refine x_meet (pc2 := 265) (S := (fun x : Nat × Nat => ((12071 : Nat), (74719 : Nat), kmix τ gF, ([some (.ref (kA τ 0 0)), some (.ref aa), some (.ref sa), some (.int (nI k)), some (.ref a_0), some (.int (nI (24 + 6 * k))), some (.int (nI (soF α fs k))), some (.int (nI x.1)), some (.int (nI x.2)), some (.int (nI zz)), none, none, none] : xL), ([] : List Value)))) (Inv := fun x => x.1 < 1000 ∧ x.2 < 1000) (fun ih => ?_) (fun xx hi => ?_)
  · refine x_if_le hC dX0_acts_208 (q := 211) rfl (tgt := 265) rfl (fun h208 => ?_) (fun h208 => ?_)
    · have hso : soF α fs k = pk (fs (24 + 6 * k)) 20 := if_neg (fun w => by
        have := (nI_leI (a := aI α 1) (b := 0) (by omega) (by decide)).mp h208
        omega)
      first
        | (exfalso; omega)
        | (have ih2 := ih (x1, y1q) ⟨hx1, hy1⟩; rw [hso] at ih2; exact ih2)
        | (have ih2 := ih (k, y1q) ⟨by (try dsimp only); omega, hy1⟩; rw [hso] at ih2; exact ih2)
        | (have ih2 := ih (k, k - aI α 0) ⟨by (try dsimp only); omega, by (try dsimp only); omega⟩; rw [hso, ← hsubk hk1] at ih2; exact ih2)
    have hK0 : 0 < aI α 1 := Nat.pos_of_ne_zero (fun w => h208 (by rw [w]; decide))
    refine x_iload_n hC dX0_acts_211 (q := 212) rfl rfl ?_
    refine x_aloadr_n hC dX0_acts_212 (q := 213) rfl rfl ?_
    refine x_get hC xf_X0_60_0 dX0_acts_213 (q := 216) rfl (n := (101, 0)) (AHo hA1) rfl ?_
    refine x_aloadr_n hC dX0_acts_216 (q := 217) rfl rfl ?_
    refine x_get hC xf_X0_54_0 dX0_acts_217 (q := 220) rfl (n := (101, 0)) (AHo hA1) rfl ?_
    refine x_iadd hC dX0_acts_220 (q := 221) rfl ?_
    rw [nI_add]
    refine x_icmp_ge hC dX0_acts_221 (q := 224) rfl (tgt := 265) rfl (fun h221 => ?_) (fun h221 => ?_)
    · have hso : soF α fs k = pk (fs (24 + 6 * k)) 20 := if_neg (fun w => by
        have := (nI_leI (a := aI α 0 + aI α 1) (b := k) (by omega) (by omega)).mp h221
        omega)
      first
        | (exfalso; omega)
        | (have ih2 := ih (x1, y1q) ⟨hx1, hy1⟩; rw [hso] at ih2; exact ih2)
        | (have ih2 := ih (k, y1q) ⟨by (try dsimp only); omega, hy1⟩; rw [hso] at ih2; exact ih2)
        | (have ih2 := ih (k, k - aI α 0) ⟨by (try dsimp only); omega, by (try dsimp only); omega⟩; rw [hso, ← hsubk hk1] at ih2; exact ih2)
    have hks : k < aI α 0 + aI α 1 := Nat.not_le.mp (fun w => h221 (nI_le w (by omega)))
    refine x_iload_n hC dX0_acts_224 (q := 225) rfl rfl ?_
    refine x_aloadr_n hC dX0_acts_225 (q := 226) rfl rfl ?_
    refine x_get hC xf_X0_60_0 dX0_acts_226 (q := 229) rfl (n := (101, 0)) (AHo hA1) rfl ?_
    refine x_icmp_ge hC dX0_acts_229 (q := 232) rfl (tgt := 237) rfl (fun h229 => ?_) (fun h229 => ?_)
    · have hk0 : aI α 0 ≤ k := (nI_leI (by omega) (by omega)).mp h229
      have hso : soF α fs k = 19 := (if_pos ⟨hK0, hks⟩).trans (if_neg (by omega))
      refine x_bipush hC dX0_acts_237 (q := 239) rfl (v := (19)) (by decide) ?_
      refine x_istore hC dX0_acts_239 (q := 241) rfl rfl ?_
      refine x_iload_n hC dX0_acts_241 (q := 242) rfl rfl ?_
      refine x_istore hC dX0_acts_242 (q := 244) rfl rfl ?_
      refine x_iload_n hC dX0_acts_244 (q := 245) rfl rfl ?_
      refine x_aloadr_n hC dX0_acts_245 (q := 246) rfl rfl ?_
      refine x_get hC xf_X0_60_0 dX0_acts_246 (q := 249) rfl (n := (101, 0)) (AHo hA1) rfl ?_
      refine x_icmp_ge hC dX0_acts_249 (q := 252) rfl (tgt := 257) rfl (fun h249 => ?_) (fun h249 => ?_)
      · have hk1 : aI α 0 ≤ k := (nI_leI (by omega) (by omega)).mp h249
        refine x_iload_n hC dX0_acts_257 (q := 258) rfl rfl ?_
        refine x_aloadr_n hC dX0_acts_258 (q := 259) rfl rfl ?_
        refine x_get hC xf_X0_60_0 dX0_acts_259 (q := 262) rfl (n := (101, 0)) (AHo hA1) rfl ?_
        refine x_isub hC dX0_acts_262 (q := 263) rfl ?_
        refine x_istore hC dX0_acts_263 (q := 265) rfl rfl ?_
        first
          | (exfalso; omega)
          | (have ih2 := ih (x1, y1q) ⟨hx1, hy1⟩; rw [hso] at ih2; exact ih2)
          | (have ih2 := ih (k, y1q) ⟨by (try dsimp only); omega, hy1⟩; rw [hso] at ih2; exact ih2)
          | (have ih2 := ih (k, k - aI α 0) ⟨by (try dsimp only); omega, by (try dsimp only); omega⟩; rw [hso, ← hsubk hk1] at ih2; exact ih2)
      have hk1 : k < aI α 0 := Nat.not_le.mp (fun w => h249 (nI_le w (by omega)))
      refine x_iload hC dX0_acts_252 (q := 254) rfl rfl ?_
      refine x_goto hC dX0_acts_254 (tgt := 263) rfl ?_
      refine x_istore hC dX0_acts_263 (q := 265) rfl rfl ?_
      first
        | (exfalso; omega)
        | (have ih2 := ih (x1, y1q) ⟨hx1, hy1⟩; rw [hso] at ih2; exact ih2)
        | (have ih2 := ih (k, y1q) ⟨by (try dsimp only); omega, hy1⟩; rw [hso] at ih2; exact ih2)
        | (have ih2 := ih (k, k - aI α 0) ⟨by (try dsimp only); omega, by (try dsimp only); omega⟩; rw [hso, ← hsubk hk1] at ih2; exact ih2)
    have hk0 : k < aI α 0 := Nat.not_le.mp (fun w => h229 (nI_le w (by omega)))
    have hso : soF α fs k = 8 := (if_pos ⟨hK0, hks⟩).trans (if_pos hk0)
    refine x_bipush hC dX0_acts_232 (q := 234) rfl (v := (8)) (by decide) ?_
    refine x_goto hC dX0_acts_234 (tgt := 239) rfl ?_
    refine x_istore hC dX0_acts_239 (q := 241) rfl rfl ?_
    refine x_iload_n hC dX0_acts_241 (q := 242) rfl rfl ?_
    refine x_istore hC dX0_acts_242 (q := 244) rfl rfl ?_
    refine x_iload_n hC dX0_acts_244 (q := 245) rfl rfl ?_
    refine x_aloadr_n hC dX0_acts_245 (q := 246) rfl rfl ?_
    refine x_get hC xf_X0_60_0 dX0_acts_246 (q := 249) rfl (n := (101, 0)) (AHo hA1) rfl ?_
    refine x_icmp_ge hC dX0_acts_249 (q := 252) rfl (tgt := 257) rfl (fun h249 => ?_) (fun h249 => ?_)
    · have hk1 : aI α 0 ≤ k := (nI_leI (by omega) (by omega)).mp h249
      refine x_iload_n hC dX0_acts_257 (q := 258) rfl rfl ?_
      refine x_aloadr_n hC dX0_acts_258 (q := 259) rfl rfl ?_
      refine x_get hC xf_X0_60_0 dX0_acts_259 (q := 262) rfl (n := (101, 0)) (AHo hA1) rfl ?_
      refine x_isub hC dX0_acts_262 (q := 263) rfl ?_
      refine x_istore hC dX0_acts_263 (q := 265) rfl rfl ?_
      first
        | (exfalso; omega)
        | (have ih2 := ih (x1, y1q) ⟨hx1, hy1⟩; rw [hso] at ih2; exact ih2)
        | (have ih2 := ih (k, y1q) ⟨by (try dsimp only); omega, hy1⟩; rw [hso] at ih2; exact ih2)
        | (have ih2 := ih (k, k - aI α 0) ⟨by (try dsimp only); omega, by (try dsimp only); omega⟩; rw [hso, ← hsubk hk1] at ih2; exact ih2)
    have hk1 : k < aI α 0 := Nat.not_le.mp (fun w => h249 (nI_le w (by omega)))
    refine x_iload hC dX0_acts_252 (q := 254) rfl rfl ?_
    refine x_goto hC dX0_acts_254 (tgt := 263) rfl ?_
    refine x_istore hC dX0_acts_263 (q := 265) rfl rfl ?_
    first
      | (exfalso; omega)
      | (have ih2 := ih (x1, y1q) ⟨hx1, hy1⟩; rw [hso] at ih2; exact ih2)
      | (have ih2 := ih (k, y1q) ⟨by (try dsimp only); omega, hy1⟩; rw [hso] at ih2; exact ih2)
      | (have ih2 := ih (k, k - aI α 0) ⟨by (try dsimp only); omega, by (try dsimp only); omega⟩; rw [hso, ← hsubk hk1] at ih2; exact ih2)
  obtain ⟨x2, y2⟩ := xx
  obtain ⟨hx2, hy2⟩ := hi
  dsimp only at hx2 hy2 ⊢
  refine x_iload hC dX0_acts_265 (q := 267) rfl rfl ?_
  refine x_iconst hC dX0_acts_267 (q := 268) rfl (v := (4)) (by decide) ?_
  refine x_icmp_ge hC dX0_acts_268 (q := 271) rfl (tgt := 279) rfl (fun h268 => ?_) (fun h268 => ?_)
  · have hx268 := h268
    refine x_iload hC dX0_acts_279 (q := 281) rfl rfl ?_
    refine x_bipush hC dX0_acts_281 (q := 283) rfl (v := (6)) (by decide) ?_
    refine x_icmp_ge hC dX0_acts_283 (q := 286) rfl (tgt := 294) rfl (fun h283 => ?_) (fun h283 => ?_)
    · have hx283 := h283
      refine x_iload hC dX0_acts_294 (q := 296) rfl rfl ?_
      refine x_bipush hC dX0_acts_296 (q := 298) rfl (v := (8)) (by decide) ?_
      refine x_icmp_ge hC dX0_acts_298 (q := 301) rfl (tgt := 315) rfl (fun h298 => ?_) (fun h298 => ?_)
      · have hx298 := h298
        refine x_iload hC dX0_acts_315 (q := 317) rfl rfl ?_
        refine x_bipush hC dX0_acts_317 (q := 319) rfl (v := (14)) (by decide) ?_
        refine x_icmp_ge hC dX0_acts_319 (q := 322) rfl (tgt := 326) rfl (fun h319 => ?_) (fun h319 => ?_)
        · have hx319 := h319
          refine x_iload hC dX0_acts_326 (q := 328) rfl rfl ?_
          refine x_bipush hC dX0_acts_328 (q := 330) rfl (v := (15)) (by decide) ?_
          refine x_icmp_ge hC dX0_acts_330 (q := 333) rfl (tgt := 337) rfl (fun h330 => ?_) (fun h330 => ?_)
          · have hx330 := h330
            refine x_iconst hC dX0_acts_337 (q := 338) rfl (v := (2)) (by decide) ?_
            refine x_istore hC dX0_acts_338 (q := 340) rfl rfl ?_
            refine x_iload hC dX0_acts_340 (q := 342) rfl rfl ?_
            refine x_if_ne hC dX0_acts_342 (q := 345) rfl (tgt := 373) rfl (fun h342 => ?_) (fun h342 => ?_)
            · have hx342 := h342
              refine x_iload hC dX0_acts_373 (q := 375) rfl rfl ?_
              refine x_bipush hC dX0_acts_375 (q := 377) rfl (v := (22)) (by decide) ?_
              refine x_irem hC dX0_acts_377 (q := 378) rfl (by decide) ?_
              refine x_iconst hC dX0_acts_378 (q := 379) rfl (v := (1)) (by decide) ?_
              refine x_isub hC dX0_acts_379 (q := 380) rfl ?_
              rw [show nI zz - nI zz / 22 * 22 - 1 = iI ((zz % 22 : Nat) - 1 : Int) from by rw [show (22 : Int32) = nI 22 from rfl, nI_mod (by omega) (by decide) (by decide), ← iI_nat, show (1 : Int32) = iI 1 from rfl, iI_sub]]
              refine x_istore hC dX0_acts_380 (q := 382) rfl rfl ?_
              refine x_iload hC dX0_acts_382 (q := 384) rfl rfl ?_
              refine x_if_ne hC dX0_acts_384 (q := 387) rfl (tgt := 403) rfl (fun h384 => ?_) (fun h384 => ?_)
              · have hx384 := h384
                refine x_iload hC dX0_acts_403 (q := 405) rfl rfl ?_
                refine x_iconst hC dX0_acts_405 (q := 406) rfl (v := (1)) (by decide) ?_
                refine x_icmp_ne hC dX0_acts_406 (q := 409) rfl (tgt := 421) rfl (fun h406 => ?_) (fun h406 => ?_)
                · have hx406 := h406
                  refine x_aloadr_n hC dX0_acts_421 (q := 422) rfl rfl ?_
                  refine x_aloadr_n hC dX0_acts_422 (q := 423) rfl rfl ?_
                  refine x_aloadr hC dX0_acts_423 (q := 425) rfl rfl ?_
                  refine x_iload hC dX0_acts_425 (q := 427) rfl rfl ?_
                  refine x_iload hC dX0_acts_427 (q := 429) rfl rfl ?_
                  refine x_callS hC xv_X0_301 dX0_acts_429 (q := 432) rfl rfl (m_lights h0 τ gF hD hA1 hok hLt hFo1 hAt y2 ((zz % 22 : Nat) - 1 : Int) hy2 ⟨by omega, by omega⟩) rfl (Nat.le_of_ble_eq_true rfl) ⟨(by (try dsimp only); omega), (by (try dsimp only); omega)⟩ ⟨(by (try dsimp only); omega), (by (try dsimp only); omega)⟩ (fun v g1 hp => ?_)
                  obtain ⟨ρ, rfl, hg1, hact⟩ := hp
                  subst hg1
                  have hARr : AR gF α d0 τ ρ := by
                    rcases hact with h | ⟨h, -⟩
                    · rw [h]; exact AR.rf hLt
                    · obtain ⟨-, -, -, -, h2⟩ := h
                      exact h2
                  rw [show kA τ 0 0 = kA ρ 0 0 from hARr.2.1.symm]
                  refine x_istore hC dX0_acts_432 (q := 434) rfl rfl ?_
                  refine x_iload hC dX0_acts_434 (q := 436) rfl rfl ?_
                  refine x_if_eq hC dX0_acts_436 (q := 439) rfl (tgt := 474) rfl (fun h436 => ?_) (fun h436 => ?_)
                  · exact absurd h436 (by decide)
                  refine x_aloadr_n hC dX0_acts_439 (q := 440) rfl rfl ?_
                  refine x_iconst hC dX0_acts_440 (q := 441) rfl (v := (3)) (by decide) ?_
                  refine x_callV hC xv_X0_185 dX0_acts_441 (q := 444) rfl rfl (m_X2_status h0 ρ gF 3 (by decide)) (nn := (0, 0)) rfl rfl rfl (Nat.le_of_ble_eq_true rfl) ⟨(by (try dsimp only); omega), (by (try dsimp only); omega)⟩ ⟨(by (try dsimp only); omega), (by (try dsimp only); omega)⟩ (fun v g1 hp => ?_)
                  obtain ⟨rfl, hg1⟩ := hp
                  replace hg1 := hg1.symm
                  subst hg1
                  refine x_aloadr hC dX0_acts_444 (q := 446) rfl rfl ?_
                  refine x_get hC xf_X0_188_16 dX0_acts_446 (q := 449) rfl (n := (120, 0)) (DWo hD) rfl ?_
                  rw [show I 3 = iI (kV τ 1 0 3) from hAt.1.2.2.2.1]
                  refine x_icmp_gt hC dX0_acts_449 (q := 452) rfl (tgt := 470) rfl (fun h449 => ?_) (fun h449 => ?_)
                  · obtain ⟨ρz, hρz⟩ : ∃ z, z = ρ := ⟨_, rfl⟩
                    subst hρz
                    have hARz := hARr
                    refine x_iconst hC dX0_acts_470 (q := 471) rfl (v := (1)) (by decide) ?_
                    refine x_goto hC dX0_acts_471 (tgt := 475) rfl ?_
                    refine x_sub (g' := kmix ρz gB) (kmix_sub hsub) ?_
                    exact x_zret hC hr rfl dX0_acts_475 (by (try dsimp only); omega) (by (try dsimp only); omega) ⟨ρz, rfl, (hARz.bk hBt).dn hL, rfl⟩
                  obtain ⟨hDn, hCC⟩ : Dn gF α d0 τ ρ ∧ _ := by
                    rcases hact with h | ⟨h, -, h2⟩
                    · exact absurd ((iI_lt (a := kV τ 1 0 3) (b := kV ρ 1 0 3) ⟨by omega, by omega⟩ ⟨by rw [h, kRf_3]; omega, by rw [h, kRf_3]; omega⟩).mpr (by rw [h, kRf_3]; omega)) h449
                    · exact ⟨h, h2⟩
                  refine x_aloadr_n hC dX0_acts_452 (q := 453) rfl rfl ?_
                  refine x_aloadr_n hC dX0_acts_453 (q := 454) rfl rfl ?_
                  refine x_aloadr hC dX0_acts_454 (q := 456) rfl rfl ?_
                  refine x_iload hC dX0_acts_456 (q := 458) rfl rfl ?_
                  refine x_iload hC dX0_acts_458 (q := 460) rfl rfl ?_
                  refine x_iload hC dX0_acts_460 (q := 462) rfl rfl ?_
                  refine x_iload hC dX0_acts_462 (q := 464) rfl rfl ?_
                  refine x_callS hC xv_X0_304 dX0_acts_464 (q := 467) rfl rfl (m_undoes_l h0 τ ρ gF hD hA1 hok hLt hFo1 hAt hDn _ hCC) rfl (Nat.le_of_ble_eq_true rfl) ⟨(by (try dsimp only); omega), (by (try dsimp only); omega)⟩ ⟨(by (try dsimp only); omega), (by (try dsimp only); omega)⟩ (fun v g1 hp => ?_)
                  obtain ⟨ρz, rfl, hARz, hg1⟩ := hp
                  subst hg1
                  refine x_if_eq hC dX0_acts_467 (q := 470) rfl (tgt := 474) rfl (fun h467 => ?_) (fun h467 => ?_)
                  · exact absurd h467 (by decide)
                  refine x_iconst hC dX0_acts_470 (q := 471) rfl (v := (1)) (by decide) ?_
                  refine x_goto hC dX0_acts_471 (tgt := 475) rfl ?_
                  refine x_sub (g' := kmix ρz gB) (kmix_sub hsub) ?_
                  exact x_zret hC hr rfl dX0_acts_475 (by (try dsimp only); omega) (by (try dsimp only); omega) ⟨ρz, rfl, (hARz.bk hBt).dn hL, rfl⟩
                · exact absurd h406 (by decide)
              · exact absurd h384 (by decide)
            · exact absurd h342 (by decide)
          · exact absurd (nI_le (a := 15) (b := soF α fs k) (by omega) (by omega)) h330
        · exact absurd (nI_le (a := 14) (b := soF α fs k) (by omega) (by omega)) h319
      · exact absurd (nI_le (a := 8) (b := soF α fs k) (by omega) (by omega)) h298
    · exact absurd (nI_le (a := 6) (b := soF α fs k) (by omega) (by omega)) h283
  · exact absurd (nI_le (a := 4) (b := soF α fs k) (by omega) (by omega)) h268

theorem m_X0_acts {l : Launch} {s0 : State} {D : va_G} (h0 : x0 l s0 D) (σ : KS) (gB : xG) {aa sa d0 k : Nat} {α : aA} {fs : Nat → Int32} (hk : k < 30) (hs : gB (100, 0) = some (sa, xAi .int 400 fs)) (hB : ∀ n : xN, 120 ≤ n.1 → n.1 ≤ 141 → gB n = none) (hL0 : gB (2000, 0) = none) (hA : AH gB aa α) (hok : aOk α) (hL : LSt gB α d0 σ) (hFo : KFo s0 gB d0) (hwk : 0 ≤ kI σ 3 0 ∧ kI σ 3 0 ≤ 880) (hst : 0 ≤ kV σ 1 0 3 ∧ kV σ 1 0 3 ≤ 1000) : xMet l s0 D yX0_acts cX0_acts 13 (some .boolean) (xr 58 15200 94500 3500) [.ref (kA σ 0 0), .ref aa, .ref sa, .int (nI k)] (kmix σ gB) (fun r g1 => ∃ ρ, r = some (.int 1) ∧ AR gB α d0 σ ρ ∧ g1 = kmix ρ gB) := by
  have hso20 : soF α fs k < 20 := by
    have := (pk_ok (fs (24 + 6 * k)) (n := 20) (by decide) (by decide)).1
    unfold soF
    split
    · split <;> decide
    · exact this
  by_cases h4 : soF α fs k < 4
  · exact m_acts_0 h0 σ gB hk hs hB hL0 hA hok hL hFo hwk hst h4
  by_cases h6 : soF α fs k < 6
  · exact m_acts_1 h0 σ gB hk hs hB hL0 hA hok hL hFo hwk hst ⟨by omega, h6⟩
  by_cases h8 : soF α fs k < 8
  · exact m_acts_2 h0 σ gB hk hs hB hL0 hA hok hL hFo hwk hst ⟨by omega, h8⟩
  by_cases h14 : soF α fs k < 14
  · exact m_acts_3 h0 σ gB hk hs hB hL0 hA hok hL hFo hwk hst ⟨by omega, h14⟩
  by_cases h15 : soF α fs k = 14
  · exact m_acts_4 h0 σ gB hk hs hB hL0 hA hok hL hFo hwk hst h15
  · exact m_acts_5 h0 σ gB hk hs hB hL0 hA hok hL hFo hwk hst ⟨by omega, by omega⟩
