/-! how the class begins -/
def LB (σ : KS) (α : aA) : Prop := kI σ 7 0 = aI α 6 ∧ kI σ 3 0 = 0 ∧ kA σ 63 0 = 0 ∧ kA σ 65 0 = 0 ∧ (∀ q, q < aI α 1 → kI σ 41 q = -1) ∧ (∀ c, c < aI α 0 → kO σ 0 c 0 = none ∧ kI σ 33 c = -1 ∧ kI σ 34 c = -1)

set_option maxHeartbeats 4000000 in
set_option maxRecDepth 100000 in
theorem m_X0_begins {l : Launch} {s0 : State} {D : va_G} (h0 : x0 l s0 D) (σ : KS) (gF : xG) {aa : Nat} {α : aA} (hA : AH gF aa α) (hok : aOk α) (hw : KW σ) (hpP : KPl σ) (hl : LT σ α) (hB : LB σ α) : xMet l s0 D yX0_begins cX0_begins 3 (some .boolean) (xr 7 0 0 180) [.ref (kA σ 0 0), .ref aa] (kmix σ gF) (fun r g1 => r = some (.int 1) ∧ g1 = kmix σ gF) := by
  obtain ⟨ca, ga, ra, hat, hac, hag, har⟩ := hA.km σ
  obtain ⟨hb0, hb1, hb2, hb3, hb4, hb5, hb6, hb7, hb8, hcl, hgr, hro⟩ := id hok
  refine xMet.of h0 (by decide +kernel) rfl ?_
  intro zp ze zs zm za zb zf zc hC hr hnm
  refine x_aloadr_n hC dX0_begins_0 (q := 1) rfl rfl ?_
  refine x_iconst hC dX0_begins_1 (q := 2) rfl (v := (0)) (by decide) ?_
  refine x_callV hC xv_X0_73 dX0_begins_2 (q := 5) rfl rfl (m_X2_has_0 h0 σ gF) (nn := (0, 0)) rfl rfl rfl (Nat.le_of_ble_eq_true rfl) ⟨(Nat.le_of_ble_eq_true rfl), (Nat.le_of_ble_eq_true rfl)⟩ ⟨(Nat.le_of_ble_eq_true rfl), (Nat.le_of_ble_eq_true rfl)⟩ (fun v g1 hp => ?_)
  rw [hl.1] at hp
  obtain ⟨rfl, hg1⟩ := hp
  replace hg1 := hg1.symm
  subst hg1
  refine x_aloadr_n hC dX0_begins_5 (q := 6) rfl rfl ?_
  refine x_get hC xf_X0_60_0 dX0_begins_6 (q := 9) rfl (n := (101, 0)) hat rfl ?_
  refine x_icmp_ne hC dX0_begins_9 (q := 12) rfl (tgt := 62) rfl (fun h9 => ?_) (fun h9 => ?_)
  · exact absurd rfl h9
  refine x_aloadr_n hC dX0_begins_12 (q := 13) rfl rfl ?_
  refine x_iconst hC dX0_begins_13 (q := 14) rfl (v := (1)) (by decide) ?_
  refine x_callV hC xv_X0_73 dX0_begins_14 (q := 17) rfl rfl (m_X2_has_1 h0 σ gF) (nn := (0, 0)) rfl rfl rfl (Nat.le_of_ble_eq_true rfl) ⟨(Nat.le_of_ble_eq_true rfl), (Nat.le_of_ble_eq_true rfl)⟩ ⟨(Nat.le_of_ble_eq_true rfl), (Nat.le_of_ble_eq_true rfl)⟩ (fun v g1 hp => ?_)
  rw [hl.2.1] at hp
  obtain ⟨rfl, hg1⟩ := hp
  replace hg1 := hg1.symm
  subst hg1
  refine x_aloadr_n hC dX0_begins_17 (q := 18) rfl rfl ?_
  refine x_get hC xf_X0_54_0 dX0_begins_18 (q := 21) rfl (n := (101, 0)) hat rfl ?_
  refine x_icmp_ne hC dX0_begins_21 (q := 24) rfl (tgt := 62) rfl (fun h21 => ?_) (fun h21 => ?_)
  · exact absurd rfl h21
  refine x_aloadr_n hC dX0_begins_24 (q := 25) rfl rfl ?_
  refine x_iconst hC dX0_begins_25 (q := 26) rfl (v := (3)) (by decide) ?_
  refine x_callV hC xv_X0_73 dX0_begins_26 (q := 29) rfl rfl (m_X2_has_3 h0 σ gF) (nn := (0, 0)) rfl rfl rfl (Nat.le_of_ble_eq_true rfl) ⟨(Nat.le_of_ble_eq_true rfl), (Nat.le_of_ble_eq_true rfl)⟩ ⟨(Nat.le_of_ble_eq_true rfl), (Nat.le_of_ble_eq_true rfl)⟩ (fun v g1 hp => ?_)
  rw [hB.1, iI_nat] at hp
  obtain ⟨rfl, hg1⟩ := hp
  replace hg1 := hg1.symm
  subst hg1
  refine x_aloadr_n hC dX0_begins_29 (q := 30) rfl rfl ?_
  refine x_get hC xf_X0_77_0 dX0_begins_30 (q := 33) rfl (n := (101, 0)) hat rfl ?_
  refine x_icmp_ne hC dX0_begins_33 (q := 36) rfl (tgt := 62) rfl (fun h33 => ?_) (fun h33 => ?_)
  · exact absurd rfl h33
  refine x_aloadr_n hC dX0_begins_36 (q := 37) rfl rfl ?_
  refine x_iconst hC dX0_begins_37 (q := 38) rfl (v := (2)) (by decide) ?_
  refine x_callV hC xv_X0_73 dX0_begins_38 (q := 41) rfl rfl (m_X2_has_2 h0 σ gF) (nn := (0, 0)) rfl rfl rfl (Nat.le_of_ble_eq_true rfl) ⟨(Nat.le_of_ble_eq_true rfl), (Nat.le_of_ble_eq_true rfl)⟩ ⟨(Nat.le_of_ble_eq_true rfl), (Nat.le_of_ble_eq_true rfl)⟩ (fun v g1 hp => ?_)
  rw [hB.2.1] at hp
  obtain ⟨rfl, hg1⟩ := hp
  replace hg1 := hg1.symm
  subst hg1
  refine x_if_ne hC dX0_begins_41 (q := 44) rfl (tgt := 62) rfl (fun h41 => ?_) (fun h41 => ?_)
  · exact absurd rfl h41
  refine x_aloadr_n hC dX0_begins_44 (q := 45) rfl rfl ?_
  refine x_bipush hC dX0_begins_45 (q := 47) rfl (v := (8)) (by decide) ?_
  refine x_callV hC xv_X0_73 dX0_begins_47 (q := 50) rfl rfl (m_X2_has_8 h0 σ gF) (nn := (0, 0)) rfl rfl rfl (Nat.le_of_ble_eq_true rfl) ⟨(Nat.le_of_ble_eq_true rfl), (Nat.le_of_ble_eq_true rfl)⟩ ⟨(Nat.le_of_ble_eq_true rfl), (Nat.le_of_ble_eq_true rfl)⟩ (fun v g1 hp => ?_)
  rw [hB.2.2.1] at hp
  obtain ⟨rfl, hg1⟩ := hp
  replace hg1 := hg1.symm
  subst hg1
  refine x_if_ne hC dX0_begins_50 (q := 53) rfl (tgt := 62) rfl (fun h50 => ?_) (fun h50 => ?_)
  · exact absurd rfl h50
  refine x_aloadr_n hC dX0_begins_53 (q := 54) rfl rfl ?_
  refine x_bipush hC dX0_begins_54 (q := 56) rfl (v := (10)) (by decide) ?_
  refine x_callV hC xv_X0_73 dX0_begins_56 (q := 59) rfl rfl (m_X2_has_10 h0 σ gF) (nn := (0, 0)) rfl rfl rfl (Nat.le_of_ble_eq_true rfl) ⟨(Nat.le_of_ble_eq_true rfl), (Nat.le_of_ble_eq_true rfl)⟩ ⟨(Nat.le_of_ble_eq_true rfl), (Nat.le_of_ble_eq_true rfl)⟩ (fun v g1 hp => ?_)
  rw [hB.2.2.2.1] at hp
  obtain ⟨rfl, hg1⟩ := hp
  replace hg1 := hg1.symm
  subst hg1
  refine x_if_eq hC dX0_begins_59 (q := 62) rfl (tgt := 64) rfl (fun h59 => ?_) (fun h59 => ?_)
  · refine x_iconst hC dX0_begins_64 (q := 65) rfl (v := (0)) (by decide) ?_
    refine x_istore_n hC dX0_begins_65 (q := 66) rfl rfl ?_
    refine x_loop (S := (fun x : Nat => ((0 : Nat), (0 : Nat), kmix σ gF, ([some (.ref (kA σ 0 0)), some (.ref aa), some (.int (nI x))] : xL), ([] : List Value)))) (Inv := fun x => x ≤ aI α 1) (μ := fun x => aI α 1 - x) ?_ 0 (Nat.zero_le _)
    intro i hi ih
    dsimp only at hi ih ⊢
    refine x_iload_n hC dX0_begins_66 (q := 67) rfl rfl ?_
    refine x_aloadr_n hC dX0_begins_67 (q := 68) rfl rfl ?_
    refine x_get hC xf_X0_54_0 dX0_begins_68 (q := 71) rfl (n := (101, 0)) hat rfl ?_
    refine x_icmp_ge hC dX0_begins_71 (q := 74) rfl (tgt := 107) rfl (fun h71 => ?_) (fun h71 => ?_)
    · have hi1 : i = aI α 1 := by
        have := (nI_leI (a := aI α 1) (b := i) (by omega) (by omega)).mp h71
        omega
      subst hi1
      refine x_iconst hC dX0_begins_107 (q := 108) rfl (v := (0)) (by decide) ?_
      refine x_istore_n hC dX0_begins_108 (q := 109) rfl rfl ?_
      refine x_loop (S := (fun x : Nat => ((0 : Nat), (0 : Nat), kmix σ gF, ([some (.ref (kA σ 0 0)), some (.ref aa), some (.int (nI x))] : xL), ([] : List Value)))) (Inv := fun x => x ≤ aI α 0) (μ := fun x => aI α 0 - x) ?_ 0 (Nat.zero_le _)
      intro i hi ih
      dsimp only at hi ih ⊢
      refine x_iload_n hC dX0_begins_109 (q := 110) rfl rfl ?_
      refine x_aloadr_n hC dX0_begins_110 (q := 111) rfl rfl ?_
      refine x_get hC xf_X0_60_0 dX0_begins_111 (q := 114) rfl (n := (101, 0)) hat rfl ?_
      refine x_icmp_ge hC dX0_begins_114 (q := 117) rfl (tgt := 184) rfl (fun h114 => ?_) (fun h114 => ?_)
      · have hi1 : i = aI α 0 := by
          have := (nI_leI (a := aI α 0) (b := i) (by omega) (by omega)).mp h114
          omega
        subst hi1
        refine x_aloadr_n hC dX0_begins_184 (q := 185) rfl rfl ?_
        refine x_aloadr_n hC dX0_begins_185 (q := 186) rfl rfl ?_
        refine x_callS hC xv_X0_89 dX0_begins_186 (q := 189) rfl rfl (m_X0_areThere h0 σ gF hA hok hw hpP hl) rfl (Nat.le_of_ble_eq_true rfl) ⟨(Nat.le_of_ble_eq_true rfl), (Nat.le_of_ble_eq_true rfl)⟩ ⟨(Nat.le_of_ble_eq_true rfl), (Nat.le_of_ble_eq_true rfl)⟩ (fun v g1 hp => ?_)
        obtain ⟨rfl, hg1⟩ := hp
        replace hg1 := hg1.symm
        subst hg1
        exact x_zret hC hr rfl dX0_begins_189 (Nat.le_of_ble_eq_true rfl) (Nat.le_of_ble_eq_true rfl) ⟨rfl, rfl⟩
      have hi1 : i < aI α 0 := Nat.not_le.mp (fun w => h114 (nI_le w (by omega)))
      refine x_aloadr_n hC dX0_begins_117 (q := 118) rfl rfl ?_
      refine x_iload_n hC dX0_begins_118 (q := 119) rfl rfl ?_
      refine x_iconst hC dX0_begins_119 (q := 120) rfl (v := (0)) (by decide) ?_
      refine x_callV hC xv_X0_63 dX0_begins_120 (q := 123) rfl rfl (m_X2_child_0 h0 σ gF hw i (by rw [hl.1]; exact hi1)) (nn := (0, 0)) rfl rfl rfl (Nat.le_of_ble_eq_true rfl) ⟨(Nat.le_of_ble_eq_true rfl), (Nat.le_of_ble_eq_true rfl)⟩ ⟨(Nat.le_of_ble_eq_true rfl), (Nat.le_of_ble_eq_true rfl)⟩ (fun v g1 hp => ?_)
      rw [(hl.2.2.1 i hi1).1, iI_nat] at hp
      obtain ⟨rfl, hg1⟩ := hp
      replace hg1 := hg1.symm
      subst hg1
      refine x_aloadr_n hC dX0_begins_123 (q := 124) rfl rfl ?_
      refine x_get hC xf_X0_83_0 dX0_begins_124 (q := 127) rfl (n := (101, 0)) hat rfl ?_
      refine x_iload_n hC dX0_begins_127 (q := 128) rfl rfl ?_
      refine x_iald hC dX0_begins_128 (q := 129) rfl (n := (102, 0)) hac (j := i) rfl (by omega) (by decide) ?_
      rw [aF_lt hi1]
      refine x_icmp_ne hC dX0_begins_129 (q := 132) rfl (tgt := 176) rfl (fun h129 => ?_) (fun h129 => ?_)
      · exact absurd rfl h129
      refine x_aloadr_n hC dX0_begins_132 (q := 133) rfl rfl ?_
      refine x_iload_n hC dX0_begins_133 (q := 134) rfl rfl ?_
      refine x_iconst hC dX0_begins_134 (q := 135) rfl (v := (1)) (by decide) ?_
      refine x_callV hC xv_X0_63 dX0_begins_135 (q := 138) rfl rfl (m_X2_child_1 h0 σ gF hw i (by rw [hl.1]; exact hi1)) (nn := (0, 0)) rfl rfl rfl (Nat.le_of_ble_eq_true rfl) ⟨(Nat.le_of_ble_eq_true rfl), (Nat.le_of_ble_eq_true rfl)⟩ ⟨(Nat.le_of_ble_eq_true rfl), (Nat.le_of_ble_eq_true rfl)⟩ (fun v g1 hp => ?_)
      rw [(hl.2.2.1 i hi1).2, iI_nat] at hp
      obtain ⟨rfl, hg1⟩ := hp
      replace hg1 := hg1.symm
      subst hg1
      refine x_aloadr_n hC dX0_begins_138 (q := 139) rfl rfl ?_
      refine x_get hC xf_X0_86_0 dX0_begins_139 (q := 142) rfl (n := (101, 0)) hat rfl ?_
      refine x_iload_n hC dX0_begins_142 (q := 143) rfl rfl ?_
      refine x_iald hC dX0_begins_143 (q := 144) rfl (n := (103, 0)) hag (j := i) rfl (by omega) (by decide) ?_
      rw [aF_lt hi1]
      refine x_icmp_ne hC dX0_begins_144 (q := 147) rfl (tgt := 176) rfl (fun h144 => ?_) (fun h144 => ?_)
      · exact absurd rfl h144
      refine x_aloadr_n hC dX0_begins_147 (q := 148) rfl rfl ?_
      refine x_iload_n hC dX0_begins_148 (q := 149) rfl rfl ?_
      refine x_iconst hC dX0_begins_149 (q := 150) rfl (v := (2)) (by decide) ?_
      refine x_callV hC xv_X0_63 dX0_begins_150 (q := 153) rfl rfl (m_X2_child_2 h0 σ gF hw i (by rw [hl.1]; exact hi1)) (nn := (0, 0)) rfl rfl rfl (Nat.le_of_ble_eq_true rfl) ⟨(Nat.le_of_ble_eq_true rfl), (Nat.le_of_ble_eq_true rfl)⟩ ⟨(Nat.le_of_ble_eq_true rfl), (Nat.le_of_ble_eq_true rfl)⟩ (fun v g1 hp => ?_)
      have hk0 : kKil σ i = -1 := by unfold kKil; rw [(hB.2.2.2.2.2 i hi1).1]
      rw [hk0] at hp
      obtain ⟨rfl, hg1⟩ := hp
      replace hg1 := hg1.symm
      subst hg1
      refine x_iconst hC dX0_begins_153 (q := 154) rfl (v := (-1)) (by decide) ?_
      refine x_icmp_ne hC dX0_begins_154 (q := 157) rfl (tgt := 176) rfl (fun h154 => ?_) (fun h154 => ?_)
      · exact absurd rfl h154
      refine x_aloadr_n hC dX0_begins_157 (q := 158) rfl rfl ?_
      refine x_iload_n hC dX0_begins_158 (q := 159) rfl rfl ?_
      refine x_iconst hC dX0_begins_159 (q := 160) rfl (v := (3)) (by decide) ?_
      refine x_callV hC xv_X0_63 dX0_begins_160 (q := 163) rfl rfl (m_X2_child_3 h0 σ gF hw i (by rw [hl.1]; exact hi1)) (nn := (0, 0)) rfl rfl rfl (Nat.le_of_ble_eq_true rfl) ⟨(Nat.le_of_ble_eq_true rfl), (Nat.le_of_ble_eq_true rfl)⟩ ⟨(Nat.le_of_ble_eq_true rfl), (Nat.le_of_ble_eq_true rfl)⟩ (fun v g1 hp => ?_)
      rw [(hB.2.2.2.2.2 i hi1).2.1] at hp
      obtain ⟨rfl, hg1⟩ := hp
      replace hg1 := hg1.symm
      subst hg1
      refine x_iconst hC dX0_begins_163 (q := 164) rfl (v := (-1)) (by decide) ?_
      refine x_icmp_ne hC dX0_begins_164 (q := 167) rfl (tgt := 176) rfl (fun h164 => ?_) (fun h164 => ?_)
      · exact absurd rfl h164
      refine x_aloadr_n hC dX0_begins_167 (q := 168) rfl rfl ?_
      refine x_iload_n hC dX0_begins_168 (q := 169) rfl rfl ?_
      refine x_iconst hC dX0_begins_169 (q := 170) rfl (v := (4)) (by decide) ?_
      refine x_callV hC xv_X0_63 dX0_begins_170 (q := 173) rfl rfl (m_X2_child_4 h0 σ gF hw i (by rw [hl.1]; exact hi1)) (nn := (0, 0)) rfl rfl rfl (Nat.le_of_ble_eq_true rfl) ⟨(Nat.le_of_ble_eq_true rfl), (Nat.le_of_ble_eq_true rfl)⟩ ⟨(Nat.le_of_ble_eq_true rfl), (Nat.le_of_ble_eq_true rfl)⟩ (fun v g1 hp => ?_)
      rw [(hB.2.2.2.2.2 i hi1).2.2, if_pos (show iI (-1) = -1 by decide)] at hp
      obtain ⟨rfl, hg1⟩ := hp
      replace hg1 := hg1.symm
      subst hg1
      refine x_if_eq hC dX0_begins_173 (q := 176) rfl (tgt := 178) rfl (fun h173 => ?_) (fun h173 => ?_)
      · refine x_iinc hC dX0_begins_178 (q := 181) rfl rfl (v := nI (i + 1)) (nI_1 i) ?_
        refine x_goto hC dX0_begins_181 (tgt := 109) rfl ?_
        exact ih (i + 1) (by (try dsimp only); omega) (by (try dsimp only); omega)
      · exact absurd rfl h173
    have hi1 : i < aI α 1 := Nat.not_le.mp (fun w => h71 (nI_le w (by omega)))
    refine x_aloadr_n hC dX0_begins_74 (q := 75) rfl rfl ?_
    refine x_iload_n hC dX0_begins_75 (q := 76) rfl rfl ?_
    refine x_iconst hC dX0_begins_76 (q := 77) rfl (v := (0)) (by decide) ?_
    refine x_callV hC xv_X0_80 dX0_begins_77 (q := 80) rfl rfl (m_X2_kiln_0 h0 σ gF hw i (by rw [hl.2.1]; exact hi1)) (nn := (0, 0)) rfl rfl rfl (Nat.le_of_ble_eq_true rfl) ⟨(Nat.le_of_ble_eq_true rfl), (Nat.le_of_ble_eq_true rfl)⟩ ⟨(Nat.le_of_ble_eq_true rfl), (Nat.le_of_ble_eq_true rfl)⟩ (fun v g1 hp => ?_)
    rw [hl.2.2.2 i hi1] at hp
    obtain ⟨rfl, hg1⟩ := hp
    replace hg1 := hg1.symm
    subst hg1
    refine x_aloadr_n hC dX0_begins_80 (q := 81) rfl rfl ?_
    refine x_get hC xf_X0_69_0 dX0_begins_81 (q := 84) rfl (n := (101, 0)) hat rfl ?_
    refine x_iload_n hC dX0_begins_84 (q := 85) rfl rfl ?_
    refine x_iald hC dX0_begins_85 (q := 86) rfl (n := (104, 0)) har (j := i) rfl (by omega) (by decide) ?_
    rw [aF_lt hi1]
    refine x_icmp_ne hC dX0_begins_86 (q := 89) rfl (tgt := 99) rfl (fun h86 => ?_) (fun h86 => ?_)
    · exact absurd rfl h86
    refine x_aloadr_n hC dX0_begins_89 (q := 90) rfl rfl ?_
    refine x_iload_n hC dX0_begins_90 (q := 91) rfl rfl ?_
    refine x_iconst hC dX0_begins_91 (q := 92) rfl (v := (2)) (by decide) ?_
    refine x_callV hC xv_X0_80 dX0_begins_92 (q := 95) rfl rfl (m_X2_kiln_2 h0 σ gF hw i (by rw [hl.2.1]; exact hi1)) (nn := (0, 0)) rfl rfl rfl (Nat.le_of_ble_eq_true rfl) ⟨(Nat.le_of_ble_eq_true rfl), (Nat.le_of_ble_eq_true rfl)⟩ ⟨(Nat.le_of_ble_eq_true rfl), (Nat.le_of_ble_eq_true rfl)⟩ (fun v g1 hp => ?_)
    rw [hB.2.2.2.2.1 i hi1] at hp
    obtain ⟨rfl, hg1⟩ := hp
    replace hg1 := hg1.symm
    subst hg1
    refine x_iconst hC dX0_begins_95 (q := 96) rfl (v := (-1)) (by decide) ?_
    refine x_icmp_eq hC dX0_begins_96 (q := 99) rfl (tgt := 101) rfl (fun h96 => ?_) (fun h96 => ?_)
    · refine x_iinc hC dX0_begins_101 (q := 104) rfl rfl (v := nI (i + 1)) (nI_1 i) ?_
      refine x_goto hC dX0_begins_104 (tgt := 66) rfl ?_
      exact ih (i + 1) (by (try dsimp only); omega) (by (try dsimp only); omega)
    · exact absurd rfl h96
  · exact absurd rfl h59
