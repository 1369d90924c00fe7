/-! all is as it was seen (but for one child and one kiln) -/
def DS (σ : KS) (α : aA) (I : Nat → Int32) (V : Nat → Nat → Int32) (M : Nat → Nat → Nat → Int32) (bc bq : Int32) : Prop := I 0 = iI (kI σ 7 0) ∧ I 1 = nI (kA σ 63 0) ∧ I 2 = iI (kI σ 3 0) ∧ kA σ 63 0 ≤ 40 ∧ (∀ k, k < kA σ 63 0 → ∀ j, j < 4 → M 18 k j = iI (kV σ 2 k j)) ∧ (∀ c, c < aI α 0 → ¬ nI c = bc → DC σ V c) ∧ ∀ q, q < aI α 1 → V 5 q = nI (kA σ 25 q) ∧ (¬ nI q = bq → V 7 q = iI (kI σ 41 q))

set_option maxHeartbeats 4000000 in
set_option maxRecDepth 100000 in
theorem m_X19_isSame {l : Launch} {s0 : State} {D : va_G} (h0 : x0 l s0 D) (σ : KS) (gF : xG) {ad aa : Nat} {α : aA} {I : Nat → Int32} {V : Nat → Nat → Int32} {M : Nat → Nat → Nat → Int32} (hD : DW gF ad I V M) (hA : AH gF aa α) (hok : aOk α) (hw : KW σ) (hl : LT σ α) {bc bq : Int32} (hS : DS σ α I V M bc bq) : xMet l s0 D yX19_isSame cX19_isSame 7 (some .boolean) (xr 8 0 0 240) [.ref ad, .ref (kA σ 0 0), .ref aa, .int bc, .int bq] (kmix σ gF) (fun r g1 => r = some (.int 1) ∧ g1 = kmix σ gF) := by
  obtain ⟨ra, rr, hd0, hd3, hd6, hdb, hdr, hdc, hdk, hdx, hdy⟩ := hD.km σ
  obtain ⟨ca, ga, rm, hat, hac, hag, har⟩ := hA.km σ
  obtain ⟨hb0, hb1, hb2, hb3, hb4, hb5, hb6, hb7, hb8, hcl, hgr, hro⟩ := id hok
  obtain ⟨s0_, s1_, s2_, s3_, s4_, s5_, s6_⟩ := hS
  refine xMet.of h0 (by decide +kernel) rfl ?_
  intro zp ze zs zm za zb zf zc hC hr hnm
  refine x_aloadr_n hC dX19_isSame_0 (q := 1) rfl rfl ?_
  refine x_iconst hC dX19_isSame_1 (q := 2) rfl (v := (3)) (by decide) ?_
  refine x_callV hC xv_X19_55 dX19_isSame_2 (q := 5) rfl rfl (m_X2_has_3 h0 σ gF) (nn := (0, 0)) rfl rfl rfl (Nat.le_of_ble_eq_true rfl) ⟨(Nat.le_of_ble_eq_true rfl), (Nat.le_of_ble_eq_true rfl)⟩ ⟨(Nat.le_of_ble_eq_true rfl), (Nat.le_of_ble_eq_true rfl)⟩ (fun v g1 hp => ?_)
  obtain ⟨rfl, hg1⟩ := hp
  replace hg1 := hg1.symm
  subst hg1
  refine x_aloadr_n hC dX19_isSame_5 (q := 6) rfl rfl ?_
  refine x_get hC xf_X19_61_16 dX19_isSame_6 (q := 9) rfl (n := (120, 0)) hd0 rfl ?_
  rw [s0_]
  refine x_icmp_ne hC dX19_isSame_9 (q := 12) rfl (tgt := 49) rfl (fun h9 => ?_) (fun h9 => ?_)
  · exact absurd rfl h9
  refine x_aloadr_n hC dX19_isSame_12 (q := 13) rfl rfl ?_
  refine x_bipush hC dX19_isSame_13 (q := 15) rfl (v := (8)) (by decide) ?_
  refine x_callV hC xv_X19_55 dX19_isSame_15 (q := 18) rfl rfl (m_X2_has_8 h0 σ gF) (nn := (0, 0)) rfl rfl rfl (Nat.le_of_ble_eq_true rfl) ⟨(Nat.le_of_ble_eq_true rfl), (Nat.le_of_ble_eq_true rfl)⟩ ⟨(Nat.le_of_ble_eq_true rfl), (Nat.le_of_ble_eq_true rfl)⟩ (fun v g1 hp => ?_)
  obtain ⟨rfl, hg1⟩ := hp
  replace hg1 := hg1.symm
  subst hg1
  refine x_aloadr_n hC dX19_isSame_18 (q := 19) rfl rfl ?_
  refine x_get hC xf_X19_71_16 dX19_isSame_19 (q := 22) rfl (n := (120, 0)) hd0 rfl ?_
  rw [s1_]
  refine x_icmp_ne hC dX19_isSame_22 (q := 25) rfl (tgt := 49) rfl (fun h22 => ?_) (fun h22 => ?_)
  · exact absurd rfl h22
  refine x_aloadr_n hC dX19_isSame_25 (q := 26) rfl rfl ?_
  refine x_iconst hC dX19_isSame_26 (q := 27) rfl (v := (2)) (by decide) ?_
  refine x_callV hC xv_X19_55 dX19_isSame_27 (q := 30) rfl rfl (m_X2_has_2 h0 σ gF) (nn := (0, 0)) rfl rfl rfl (Nat.le_of_ble_eq_true rfl) ⟨(Nat.le_of_ble_eq_true rfl), (Nat.le_of_ble_eq_true rfl)⟩ ⟨(Nat.le_of_ble_eq_true rfl), (Nat.le_of_ble_eq_true rfl)⟩ (fun v g1 hp => ?_)
  obtain ⟨rfl, hg1⟩ := hp
  replace hg1 := hg1.symm
  subst hg1
  refine x_aloadr_n hC dX19_isSame_30 (q := 31) rfl rfl ?_
  refine x_get hC xf_X19_74_16 dX19_isSame_31 (q := 34) rfl (n := (120, 0)) hd0 rfl ?_
  rw [s2_]
  refine x_icmp_ne hC dX19_isSame_34 (q := 37) rfl (tgt := 49) rfl (fun h34 => ?_) (fun h34 => ?_)
  · exact absurd rfl h34
  refine x_aloadr_n hC dX19_isSame_37 (q := 38) rfl rfl ?_
  refine x_aloadr_n hC dX19_isSame_38 (q := 39) rfl rfl ?_
  refine x_callV hC xv_X19_119 dX19_isSame_39 (q := 42) rfl rfl (m_X19_areElder h0 σ gF hD hw (R := kA σ 63 0) (Nat.le_refl _) s3_ s1_ s4_) (nn := (120, 0)) hd0 rfl rfl (Nat.le_of_ble_eq_true rfl) ⟨(Nat.le_of_ble_eq_true rfl), (Nat.le_of_ble_eq_true rfl)⟩ ⟨(Nat.le_of_ble_eq_true rfl), (Nat.le_of_ble_eq_true rfl)⟩ (fun v g1 hp => ?_)
  obtain ⟨rfl, hg1⟩ := hp
  replace hg1 := hg1.symm
  subst hg1
  refine x_if_eq hC dX19_isSame_42 (q := 45) rfl (tgt := 49) rfl (fun h42 => ?_) (fun h42 => ?_)
  · exact absurd h42 (by decide)
  refine x_iconst hC dX19_isSame_45 (q := 46) rfl (v := (1)) (by decide) ?_
  refine x_goto hC dX19_isSame_46 (tgt := 50) rfl ?_
  refine x_istore hC dX19_isSame_50 (q := 52) rfl rfl ?_
  refine x_iconst hC dX19_isSame_52 (q := 53) rfl (v := (0)) (by decide) ?_
  refine x_istore hC dX19_isSame_53 (q := 55) rfl rfl ?_
  refine x_loop (S := (fun x : Nat => ((0 : Nat), (0 : Nat), kmix σ gF, ([some (.ref ad), some (.ref (kA σ 0 0)), some (.ref aa), some (.int bc), some (.int bq), some (.int 1), some (.int (nI x))] : xL), ([] : List Value)))) (Inv := fun x => x ≤ aI α 0) (μ := fun x => aI α 0 - x) ?_ 0 (Nat.zero_le _)
  intro i hi ih
  dsimp only at hi ih ⊢
  refine x_iload hC dX19_isSame_55 (q := 57) rfl rfl ?_
  refine x_aloadr_n hC dX19_isSame_57 (q := 58) rfl rfl ?_
  refine x_get hC xf_X19_100_0 dX19_isSame_58 (q := 61) rfl (n := (101, 0)) hat rfl ?_
  refine x_icmp_ge hC dX19_isSame_61 (q := 64) rfl (tgt := 98) rfl (fun h61 => ?_) (fun h61 => ?_)
  · have hi1 : i = aI α 0 := by
      have := (nI_leI (a := aI α 0) (b := i) (by omega) (by omega)).mp h61
      omega
    subst hi1
    refine x_iconst hC dX19_isSame_98 (q := 99) rfl (v := (0)) (by decide) ?_
    refine x_istore hC dX19_isSame_99 (q := 101) rfl rfl ?_
    refine x_loop (S := (fun x : Nat => ((0 : Nat), (0 : Nat), kmix σ gF, ([some (.ref ad), some (.ref (kA σ 0 0)), some (.ref aa), some (.int bc), some (.int bq), some (.int 1), some (.int (nI x))] : xL), ([] : List Value)))) (Inv := fun x => x ≤ aI α 1) (μ := fun x => aI α 1 - x) ?_ 0 (Nat.zero_le _)
    intro i hi ih
    dsimp only at hi ih ⊢
    refine x_iload hC dX19_isSame_101 (q := 103) rfl rfl ?_
    refine x_aloadr_n hC dX19_isSame_103 (q := 104) rfl rfl ?_
    refine x_get hC xf_X19_90_0 dX19_isSame_104 (q := 107) rfl (n := (101, 0)) hat rfl ?_
    refine x_icmp_ge hC dX19_isSame_107 (q := 110) rfl (tgt := 169) rfl (fun h107 => ?_) (fun h107 => ?_)
    · have hi1 : i = aI α 1 := by
        have := (nI_leI (a := aI α 1) (b := i) (by omega) (by omega)).mp h107
        omega
      subst hi1
      refine x_iload hC dX19_isSame_169 (q := 171) rfl rfl ?_
      exact x_zret hC hr rfl dX19_isSame_171 (Nat.le_of_ble_eq_true rfl) (Nat.le_of_ble_eq_true rfl) ⟨rfl, rfl⟩
    have hi1 : i < aI α 1 := Nat.not_le.mp (fun w => h107 (nI_le w (by omega)))
    refine x_iload hC dX19_isSame_110 (q := 112) rfl rfl ?_
    refine x_if_eq hC dX19_isSame_112 (q := 115) rfl (tgt := 169) rfl (fun h112 => ?_) (fun h112 => ?_)
    · exact absurd h112 (by decide)
    refine x_aloadr_n hC dX19_isSame_115 (q := 116) rfl rfl ?_
    refine x_iload hC dX19_isSame_116 (q := 118) rfl rfl ?_
    refine x_iconst hC dX19_isSame_118 (q := 119) rfl (v := (0)) (by decide) ?_
    refine x_callV hC xv_X19_95 dX19_isSame_119 (q := 122) rfl rfl (m_X2_kiln_0 h0 σ gF hw i (by rw [hl.2.1]; exact hi1)) (nn := (0, 0)) rfl rfl rfl (Nat.le_of_ble_eq_true rfl) ⟨(Nat.le_of_ble_eq_true rfl), (Nat.le_of_ble_eq_true rfl)⟩ ⟨(Nat.le_of_ble_eq_true rfl), (Nat.le_of_ble_eq_true rfl)⟩ (fun v g1 hp => ?_)
    obtain ⟨rfl, hg1⟩ := hp
    replace hg1 := hg1.symm
    subst hg1
    refine x_aloadr_n hC dX19_isSame_122 (q := 123) rfl rfl ?_
    refine x_get hC xf_X19_7_16 dX19_isSame_123 (q := 126) rfl (n := (120, 0)) hd0 rfl ?_
    refine x_iload hC dX19_isSame_126 (q := 128) rfl rfl ?_
    refine x_iald hC dX19_isSame_128 (q := 129) rfl (n := (121, 0)) (hd3 5 (by decide) (by decide)) (j := i) rfl (by omega) (by decide) ?_
    rw [(s6_ i hi1).1]
    refine x_icmp_ne hC dX19_isSame_129 (q := 132) rfl (tgt := 160) rfl (fun h129 => ?_) (fun h129 => ?_)
    · exact absurd rfl h129
    refine x_iload hC dX19_isSame_132 (q := 134) rfl rfl ?_
    refine x_iload hC dX19_isSame_134 (q := 136) rfl rfl ?_
    refine x_icmp_eq hC dX19_isSame_136 (q := 139) rfl (tgt := 156) rfl (fun h136 => ?_) (fun h136 => ?_)
    · have h136x := h136
      refine x_iconst hC dX19_isSame_156 (q := 157) rfl (v := (1)) (by decide) ?_
      refine x_goto hC dX19_isSame_157 (tgt := 161) rfl ?_
      refine x_istore hC dX19_isSame_161 (q := 163) rfl rfl ?_
      refine x_iinc hC dX19_isSame_163 (q := 166) rfl rfl (v := nI (i + 1)) (nI_1 i) ?_
      refine x_goto hC dX19_isSame_166 (tgt := 101) rfl ?_
      exact ih (i + 1) (by (try dsimp only); omega) (by (try dsimp only); omega)
    refine x_aloadr_n hC dX19_isSame_139 (q := 140) rfl rfl ?_
    refine x_iload hC dX19_isSame_140 (q := 142) rfl rfl ?_
    refine x_iconst hC dX19_isSame_142 (q := 143) rfl (v := (2)) (by decide) ?_
    refine x_callV hC xv_X19_95 dX19_isSame_143 (q := 146) rfl rfl (m_X2_kiln_2 h0 σ gF hw i (by rw [hl.2.1]; exact hi1)) (nn := (0, 0)) rfl rfl rfl (Nat.le_of_ble_eq_true rfl) ⟨(Nat.le_of_ble_eq_true rfl), (Nat.le_of_ble_eq_true rfl)⟩ ⟨(Nat.le_of_ble_eq_true rfl), (Nat.le_of_ble_eq_true rfl)⟩ (fun v g1 hp => ?_)
    obtain ⟨rfl, hg1⟩ := hp
    replace hg1 := hg1.symm
    subst hg1
    refine x_aloadr_n hC dX19_isSame_146 (q := 147) rfl rfl ?_
    refine x_get hC xf_X19_16_16 dX19_isSame_147 (q := 150) rfl (n := (120, 0)) hd0 rfl ?_
    refine x_iload hC dX19_isSame_150 (q := 152) rfl rfl ?_
    refine x_iald hC dX19_isSame_152 (q := 153) rfl (n := (123, 0)) (hd3 7 (by decide) (by decide)) (j := i) rfl (by omega) (by decide) ?_
    rw [(s6_ i hi1).2 h136]
    refine x_icmp_ne hC dX19_isSame_153 (q := 156) rfl (tgt := 160) rfl (fun h153 => ?_) (fun h153 => ?_)
    · exact absurd rfl h153
    refine x_iconst hC dX19_isSame_156 (q := 157) rfl (v := (1)) (by decide) ?_
    refine x_goto hC dX19_isSame_157 (tgt := 161) rfl ?_
    refine x_istore hC dX19_isSame_161 (q := 163) rfl rfl ?_
    refine x_iinc hC dX19_isSame_163 (q := 166) rfl rfl (v := nI (i + 1)) (nI_1 i) ?_
    refine x_goto hC dX19_isSame_166 (tgt := 101) rfl ?_
    exact ih (i + 1) (by (try dsimp only); omega) (by (try dsimp only); omega)
  have hi1 : i < aI α 0 := Nat.not_le.mp (fun w => h61 (nI_le w (by omega)))
  refine x_iload hC dX19_isSame_64 (q := 66) rfl rfl ?_
  refine x_if_eq hC dX19_isSame_66 (q := 69) rfl (tgt := 98) rfl (fun h66 => ?_) (fun h66 => ?_)
  · exact absurd h66 (by decide)
  refine x_iload hC dX19_isSame_69 (q := 71) rfl rfl ?_
  refine x_iload_n hC dX19_isSame_71 (q := 72) rfl rfl ?_
  refine x_icmp_eq hC dX19_isSame_72 (q := 75) rfl (tgt := 85) rfl (fun h72 => ?_) (fun h72 => ?_)
  · have h72x := h72
    refine x_iconst hC dX19_isSame_85 (q := 86) rfl (v := (1)) (by decide) ?_
    refine x_goto hC dX19_isSame_86 (tgt := 90) rfl ?_
    refine x_istore hC dX19_isSame_90 (q := 92) rfl rfl ?_
    refine x_iinc hC dX19_isSame_92 (q := 95) rfl rfl (v := nI (i + 1)) (nI_1 i) ?_
    refine x_goto hC dX19_isSame_95 (tgt := 55) rfl ?_
    exact ih (i + 1) (by (try dsimp only); omega) (by (try dsimp only); omega)
  refine x_aloadr_n hC dX19_isSame_75 (q := 76) rfl rfl ?_
  refine x_aloadr_n hC dX19_isSame_76 (q := 77) rfl rfl ?_
  refine x_iload hC dX19_isSame_77 (q := 79) rfl rfl ?_
  refine x_callV hC xv_X19_123 dX19_isSame_79 (q := 82) rfl rfl (m_X19_isSameChild h0 σ gF hD hw (c := i) (by rw [hl.1]; exact hi1) (by omega) (s5_ i hi1 h72)) (nn := (120, 0)) hd0 rfl rfl (Nat.le_of_ble_eq_true rfl) ⟨(Nat.le_of_ble_eq_true rfl), (Nat.le_of_ble_eq_true rfl)⟩ ⟨(Nat.le_of_ble_eq_true rfl), (Nat.le_of_ble_eq_true rfl)⟩ (fun v g1 hp => ?_)
  obtain ⟨rfl, hg1⟩ := hp
  replace hg1 := hg1.symm
  subst hg1
  refine x_if_eq hC dX19_isSame_82 (q := 85) rfl (tgt := 89) rfl (fun h82 => ?_) (fun h82 => ?_)
  · exact absurd h82 (by decide)
  refine x_iconst hC dX19_isSame_85 (q := 86) rfl (v := (1)) (by decide) ?_
  refine x_goto hC dX19_isSame_86 (tgt := 90) rfl ?_
  refine x_istore hC dX19_isSame_90 (q := 92) rfl rfl ?_
  refine x_iinc hC dX19_isSame_92 (q := 95) rfl rfl (v := nI (i + 1)) (nI_1 i) ?_
  refine x_goto hC dX19_isSame_95 (tgt := 55) rfl ?_
  exact ih (i + 1) (by (try dsimp only); omega) (by (try dsimp only); omega)

set_option maxHeartbeats 4000000 in
set_option maxRecDepth 100000 in
theorem m_X0_isBehind_t {l : Launch} {s0 : State} {D : va_G} (h0 : x0 l s0 D) (σ : KS) (gF : xG) {ad aa : Nat} {α : aA} {I : Nat → Int32} {V : Nat → Nat → Int32} {M : Nat → Nat → Nat → Int32} (hD : DW gF ad I V M) (hA : AH gF aa α) (hok : aOk α) (hw : KW σ) (hl : LT σ α) {bc bq : Int32} (hS : DS σ α I V M bc bq) (hst : iI (kV σ 1 0 3) = I 3 + 0) : xMet l s0 D yX0_isBehind cX0_isBehind 6 (some .boolean) (xr 9 0 0 270) [.ref (kA σ 0 0), .ref aa, .ref ad, .int 1, .int bc, .int bq] (kmix σ gF) (fun r g1 => r = some (.int 1) ∧ g1 = kmix σ gF) := by
  obtain ⟨ra, rr, hd0, hd3, hd6, hdb, hdr, hdc, hdk, hdx, hdy⟩ := hD.km σ
  refine xMet.of h0 (by decide +kernel) rfl ?_
  intro zp ze zs zm za zb zf zc hC hr hnm
  refine x_aloadr_n hC dX0_isBehind_0 (q := 1) rfl rfl ?_
  refine x_iconst hC dX0_isBehind_1 (q := 2) rfl (v := (3)) (by decide) ?_
  refine x_callV hC xv_X0_185 dX0_isBehind_2 (q := 5) rfl rfl (m_X2_status h0 σ gF 3 (by decide)) (nn := (0, 0)) rfl rfl rfl (Nat.le_of_ble_eq_true rfl) ⟨(Nat.le_of_ble_eq_true rfl), (Nat.le_of_ble_eq_true rfl)⟩ ⟨(Nat.le_of_ble_eq_true rfl), (Nat.le_of_ble_eq_true rfl)⟩ (fun v g1 hp => ?_)
  obtain ⟨rfl, hg1⟩ := hp
  replace hg1 := hg1.symm
  subst hg1
  refine x_aloadr_n hC dX0_isBehind_5 (q := 6) rfl rfl ?_
  refine x_get hC xf_X0_188_16 dX0_isBehind_6 (q := 9) rfl (n := (120, 0)) hd0 rfl ?_
  refine x_iload_n hC dX0_isBehind_9 (q := 10) rfl rfl ?_
  refine x_if_eq hC dX0_isBehind_10 (q := 13) rfl (tgt := 17) rfl (fun h10 => ?_) (fun h10 => ?_)
  · exact absurd h10 (by decide)
  refine x_iconst hC dX0_isBehind_13 (q := 14) rfl (v := (0)) (by decide) ?_
  refine x_goto hC dX0_isBehind_14 (tgt := 18) rfl ?_
  refine x_iadd hC dX0_isBehind_18 (q := 19) rfl ?_
  rw [hst]
  refine x_icmp_ne hC dX0_isBehind_19 (q := 22) rfl (tgt := 55) rfl (fun h19 => ?_) (fun h19 => ?_)
  · exact absurd rfl h19
  refine x_aloadr_n hC dX0_isBehind_22 (q := 23) rfl rfl ?_
  refine x_aloadr_n hC dX0_isBehind_23 (q := 24) rfl rfl ?_
  refine x_aloadr_n hC dX0_isBehind_24 (q := 25) rfl rfl ?_
  refine x_iload_n hC dX0_isBehind_25 (q := 26) rfl rfl ?_
  refine x_if_eq hC dX0_isBehind_26 (q := 29) rfl (tgt := 34) rfl (fun h26 => ?_) (fun h26 => ?_)
  · exact absurd h26 (by decide)
  refine x_iload hC dX0_isBehind_29 (q := 31) rfl rfl ?_
  refine x_goto hC dX0_isBehind_31 (tgt := 35) rfl ?_
  refine x_iload_n hC dX0_isBehind_35 (q := 36) rfl rfl ?_
  refine x_if_eq hC dX0_isBehind_36 (q := 39) rfl (tgt := 44) rfl (fun h36 => ?_) (fun h36 => ?_)
  · exact absurd h36 (by decide)
  refine x_iload hC dX0_isBehind_39 (q := 41) rfl rfl ?_
  refine x_goto hC dX0_isBehind_41 (tgt := 45) rfl ?_
  refine x_callV hC xv_X0_191 dX0_isBehind_45 (q := 48) rfl rfl (m_X19_isSame h0 σ gF hD hA hok hw hl hS) (nn := (120, 0)) hd0 rfl rfl (Nat.le_of_ble_eq_true rfl) ⟨(Nat.le_of_ble_eq_true rfl), (Nat.le_of_ble_eq_true rfl)⟩ ⟨(Nat.le_of_ble_eq_true rfl), (Nat.le_of_ble_eq_true rfl)⟩ (fun v g1 hp => ?_)
  obtain ⟨rfl, hg1⟩ := hp
  replace hg1 := hg1.symm
  subst hg1
  refine x_if_eq hC dX0_isBehind_48 (q := 51) rfl (tgt := 55) rfl (fun h48 => ?_) (fun h48 => ?_)
  · exact absurd h48 (by decide)
  refine x_iconst hC dX0_isBehind_51 (q := 52) rfl (v := (1)) (by decide) ?_
  refine x_goto hC dX0_isBehind_52 (tgt := 56) rfl ?_
  exact x_zret hC hr rfl dX0_isBehind_56 (Nat.le_of_ble_eq_true rfl) (Nat.le_of_ble_eq_true rfl) ⟨rfl, rfl⟩

set_option maxHeartbeats 4000000 in
set_option maxRecDepth 100000 in
theorem m_X0_isBehind_f {l : Launch} {s0 : State} {D : va_G} (h0 : x0 l s0 D) (σ : KS) (gF : xG) {ad aa : Nat} {α : aA} {I : Nat → Int32} {V : Nat → Nat → Int32} {M : Nat → Nat → Nat → Int32} (hD : DW gF ad I V M) (hA : AH gF aa α) (hok : aOk α) (hw : KW σ) (hl : LT σ α) (bc bq : Int32) (hS : DS σ α I V M (-1) (-1)) (hst : iI (kV σ 1 0 3) = I 3 + 1) : xMet l s0 D yX0_isBehind cX0_isBehind 6 (some .boolean) (xr 9 0 0 270) [.ref (kA σ 0 0), .ref aa, .ref ad, .int 0, .int bc, .int bq] (kmix σ gF) (fun r g1 => r = some (.int 1) ∧ g1 = kmix σ gF) := by
  obtain ⟨ra, rr, hd0, hd3, hd6, hdb, hdr, hdc, hdk, hdx, hdy⟩ := hD.km σ
  refine xMet.of h0 (by decide +kernel) rfl ?_
  intro zp ze zs zm za zb zf zc hC hr hnm
  refine x_aloadr_n hC dX0_isBehind_0 (q := 1) rfl rfl ?_
  refine x_iconst hC dX0_isBehind_1 (q := 2) rfl (v := (3)) (by decide) ?_
  refine x_callV hC xv_X0_185 dX0_isBehind_2 (q := 5) rfl rfl (m_X2_status h0 σ gF 3 (by decide)) (nn := (0, 0)) rfl rfl rfl (Nat.le_of_ble_eq_true rfl) ⟨(Nat.le_of_ble_eq_true rfl), (Nat.le_of_ble_eq_true rfl)⟩ ⟨(Nat.le_of_ble_eq_true rfl), (Nat.le_of_ble_eq_true rfl)⟩ (fun v g1 hp => ?_)
  obtain ⟨rfl, hg1⟩ := hp
  replace hg1 := hg1.symm
  subst hg1
  refine x_aloadr_n hC dX0_isBehind_5 (q := 6) rfl rfl ?_
  refine x_get hC xf_X0_188_16 dX0_isBehind_6 (q := 9) rfl (n := (120, 0)) hd0 rfl ?_
  refine x_iload_n hC dX0_isBehind_9 (q := 10) rfl rfl ?_
  refine x_if_eq hC dX0_isBehind_10 (q := 13) rfl (tgt := 17) rfl (fun h10 => ?_) (fun h10 => ?_)
  · refine x_iconst hC dX0_isBehind_17 (q := 18) rfl (v := (1)) (by decide) ?_
    refine x_iadd hC dX0_isBehind_18 (q := 19) rfl ?_
    rw [hst]
    refine x_icmp_ne hC dX0_isBehind_19 (q := 22) rfl (tgt := 55) rfl (fun h19 => ?_) (fun h19 => ?_)
    · exact absurd rfl h19
    refine x_aloadr_n hC dX0_isBehind_22 (q := 23) rfl rfl ?_
    refine x_aloadr_n hC dX0_isBehind_23 (q := 24) rfl rfl ?_
    refine x_aloadr_n hC dX0_isBehind_24 (q := 25) rfl rfl ?_
    refine x_iload_n hC dX0_isBehind_25 (q := 26) rfl rfl ?_
    refine x_if_eq hC dX0_isBehind_26 (q := 29) rfl (tgt := 34) rfl (fun h26 => ?_) (fun h26 => ?_)
    · refine x_iconst hC dX0_isBehind_34 (q := 35) rfl (v := (-1)) (by decide) ?_
      refine x_iload_n hC dX0_isBehind_35 (q := 36) rfl rfl ?_
      refine x_if_eq hC dX0_isBehind_36 (q := 39) rfl (tgt := 44) rfl (fun h36 => ?_) (fun h36 => ?_)
      · refine x_iconst hC dX0_isBehind_44 (q := 45) rfl (v := (-1)) (by decide) ?_
        refine x_callV hC xv_X0_191 dX0_isBehind_45 (q := 48) rfl rfl (m_X19_isSame h0 σ gF hD hA hok hw hl hS) (nn := (120, 0)) hd0 rfl rfl (Nat.le_of_ble_eq_true rfl) ⟨(Nat.le_of_ble_eq_true rfl), (Nat.le_of_ble_eq_true rfl)⟩ ⟨(Nat.le_of_ble_eq_true rfl), (Nat.le_of_ble_eq_true rfl)⟩ (fun v g1 hp => ?_)
        obtain ⟨rfl, hg1⟩ := hp
        replace hg1 := hg1.symm
        subst hg1
        refine x_if_eq hC dX0_isBehind_48 (q := 51) rfl (tgt := 55) rfl (fun h48 => ?_) (fun h48 => ?_)
        · exact absurd h48 (by decide)
        refine x_iconst hC dX0_isBehind_51 (q := 52) rfl (v := (1)) (by decide) ?_
        refine x_goto hC dX0_isBehind_52 (tgt := 56) rfl ?_
        exact x_zret hC hr rfl dX0_isBehind_56 (Nat.le_of_ble_eq_true rfl) (Nat.le_of_ble_eq_true rfl) ⟨rfl, rfl⟩
      · exact absurd h36 (by decide)
    · exact absurd h26 (by decide)
  · exact absurd h10 (by decide)
