/-! isOut -/
theorem WkR.td {F : Nat → Option (aEnv → Int64)} {σ τ : KS} {gu : Int32} {n : Nat} (h : WkR F σ gu n τ) (z : Int) (X : KD) (f : aEnv) : WkR F σ gu n (kT (kTd (kIs τ 3 0 z) X) f) := h
def wQ (F : Nat → Option (aEnv → Int64)) (σ : KS) (gu : Int32) (q n : Nat) : Nat := sm (fun c => if kO σ 0 c 0 = some q ∧ ¬ wC F σ gu c q (kI σ 33 c).toNat = 0 then 1 else 0) n
theorem wQ_s {F : Nat → Option (aEnv → Int64)} {σ : KS} {gu : Int32} {q c p : Nat} (hc : kO σ 0 c 0 = some q) (h33 : kI σ 33 c = (p : Int)) : nI (wQ F σ gu q c) + (if wC F σ gu c q p = 0 then 0 else 1) = nI (wQ F σ gu q (c + 1)) := by
  have e : (kI σ 33 c).toNat = p := by omega
  show _ = nI (wQ F σ gu q c + (if kO σ 0 c 0 = some q ∧ ¬ wC F σ gu c q (kI σ 33 c).toNat = 0 then 1 else 0))
  rw [e]
  by_cases z : wC F σ gu c q p = 0
  · rw [if_pos z, if_neg (fun w => w.2 z), Int32.add_zero]; rfl
  · rw [if_neg z, if_pos ⟨hc, z⟩]; exact nI_1 _
theorem wQ_n {F : Nat → Option (aEnv → Int64)} {σ : KS} {gu : Int32} {q c : Nat} (hc : ¬ kO σ 0 c 0 = some q) : wQ F σ gu q (c + 1) = wQ F σ gu q c := by
  show wQ F σ gu q c + (if kO σ 0 c 0 = some q ∧ ¬ wC F σ gu c q (kI σ 33 c).toNat = 0 then 1 else 0) = _
  rw [if_neg (fun w => hc w.1)]; rfl
theorem kHt_st {σ : KS} {q st : Nat} (h : -1 ≤ kI σ 41 q ∧ kI σ 41 q ≤ 20) (hst : st < 4) : kHt σ q (nI st) = iI (min 20 (kI σ 41 q + (st : Nat))) := by
  unfold kHt
  exact mn20 h hst

set_option maxHeartbeats 4000000 in
set_option maxRecDepth 100000 in
theorem m_X0_isOut {l : Launch} {s0 : State} {D : va_G} (h0 : x0 l s0 D) (σ ρ : KS) (gF : xG) {ad aa : Nat} {α : aA} {I : Nat → Int32} {V : Nat → Nat → Int32} {M : Nat → Nat → Nat → Int32} {R st : Nat} (hst : st < 4) (hD : DW gF ad I V M) (hA : AH gF aa α) (hok : aOk α) (hl : LT σ α) (hw : KW σ) (hpP : KPl σ) (hNb : KNb σ) (hM : KMk σ) (hRw : KRw σ) (hwr : KW ρ) (h61 : kA ρ 61 0 = kA σ 61 0) (hAI : AI (aFo α) σ V M R (aI α 1) (aI α 0)) (hW : WkR (aFo α) σ (nI st) (aI α 1) ρ) {q : Nat} (hq : q < aI α 1) (hf : wF (aFo α) σ q)  : xMet l s0 D yX0_isOut cX0_isOut 9 (some .boolean) (xr 7 0 0 300) [.ref (kA ρ 0 0), .ref aa, .ref ad, .int (nI q), .int (nI st), .int (kHt σ q (nI st)), .int (nI (wK (aFo α) σ (nI st) q))] (kmix ρ gF) (fun r g1 => r = some (.int 1) ∧ g1 = kmix ρ gF) := by
  obtain ⟨ra, rr, hd0, hd3, hd6, hdb, hdr, hdc, hdk, hdx, hdy⟩ := hD.km ρ
  obtain ⟨ca, ga, rm, hat, hac, hag, har⟩ := hA.km ρ
  have hb0 := hok.1
  have hb1 := hok.2.1
  have hq2 : q < kA σ 62 0 := by rw [hl.2.1]; exact hq
  have h41 := hNb.2 q hq2
  have h41b : 0 ≤ kI σ 41 q := by
    have hn : ¬ kI σ 41 q = -1 := fun w => hf (Or.inl (by rw [w]; rfl))
    omega
  have hht := kHt_st (σ := σ) (q := q) ⟨h41.1, h41.2⟩ hst
  obtain ⟨h, hh20, hhm⟩ : ∃ h : Nat, h ≤ 20 ∧ min 20 (kI σ 41 q + (st : Nat)) = h := ⟨(min 20 (kI σ 41 q + (st : Nat))).toNat, by omega, by omega⟩
  have hht2 : kHt σ q (nI st) = nI h := by rw [hht, hhm, iI_nat]
  have hK : ∀ c, c < aI α 0 → V 10 c = kKil σ c ∧ V 11 c = iI (kI σ 33 c) := fun c hc => ⟨(hAI.2.2 c hc).1.1.1, (hAI.2.2 c hc).1.1.2.1⟩
  have hTm : ∀ p c, kO σ 1 q p = some c → kI ρ 34 c = (wT (aFo α) σ (nI st) c q p).toInt := fun p c e => (hW.2.2.2.2.2.1 q p c hq hf e).1
  refine xMet.of h0 (by decide +kernel) rfl ?_
  intro zp ze zs zm za zb zf zc hC hr hnm
  refine x_iconst hC dX0_isOut_0 (q := 1) rfl (v := (0)) (by decide) ?_
  refine x_istore hC dX0_isOut_1 (q := 3) rfl rfl ?_
  refine x_iconst hC dX0_isOut_3 (q := 4) rfl (v := (0)) (by decide) ?_
  refine x_istore hC dX0_isOut_4 (q := 6) rfl rfl ?_
  refine x_loop (S := (fun x : Nat => ((0 : Nat), (0 : Nat), kmix ρ gF, ([some (.ref (kA ρ 0 0)), some (.ref aa), some (.ref ad), some (.int (nI q)), some (.int (nI st)), some (.int (kHt σ q (nI st))), some (.int (nI (wK (aFo α) σ (nI st) q))), some (.int (nI (wQ (aFo α) σ (nI st) q x))), some (.int (nI x))] : xL), ([] : List Value)))) (Inv := fun x => x ≤ aI α 0) (μ := fun x => aI α 0 - x) ?_ 0 (Nat.zero_le _)
  intro c hi ih
  dsimp only at hi ih ⊢
  refine x_iload hC dX0_isOut_6 (q := 8) rfl rfl ?_
  refine x_aloadr_n hC dX0_isOut_8 (q := 9) rfl rfl ?_
  refine x_get hC xf_X0_60_0 dX0_isOut_9 (q := 12) rfl (n := (101, 0)) hat rfl ?_
  refine x_icmp_ge hC dX0_isOut_12 (q := 15) rfl (tgt := 152) rfl (fun h12 => ?_) (fun h12 => ?_)
  · have hc1 : c = aI α 0 := by
      have := (nI_leI (a := aI α 0) (b := c) (by omega) (by omega)).mp h12
      omega
    subst hc1
    have hend : wK (aFo α) σ (nI st) q = wQ (aFo α) σ (nI st) q (aI α 0) := by rw [wK_n hpP, hl.1]; rfl
    refine x_iload hC dX0_isOut_152 (q := 154) rfl rfl ?_
    refine x_iload hC dX0_isOut_154 (q := 156) rfl rfl ?_
    refine x_icmp_ne hC dX0_isOut_156 (q := 159) rfl (tgt := 163) rfl (fun h156 => ?_) (fun h156 => ?_)
    · exact absurd (by rw [hend]) h156
    refine x_iconst hC dX0_isOut_159 (q := 160) rfl (v := (1)) (by decide) ?_
    refine x_goto hC dX0_isOut_160 (tgt := 164) rfl ?_
    exact x_zret hC hr rfl dX0_isOut_164 (Nat.le_of_ble_eq_true rfl) (Nat.le_of_ble_eq_true rfl) ⟨rfl, rfl⟩
  have hc1 : c < aI α 0 := Nat.not_le.mp (fun w => h12 (nI_le w (by omega)))
  have hc2 : c < kA ρ 61 0 := by rw [h61, hl.1]; exact hc1
  refine x_aloadr_n hC dX0_isOut_15 (q := 16) rfl rfl ?_
  refine x_get hC xf_X0_120_16 dX0_isOut_16 (q := 19) rfl (n := (120, 0)) hd0 rfl ?_
  refine x_iload hC dX0_isOut_19 (q := 21) rfl rfl ?_
  refine x_iald hC dX0_isOut_21 (q := 22) rfl (n := (126, 0)) (hd6 10 (by decide) (by decide)) (j := c) rfl (by omega) (by decide) ?_
  refine x_iload_n hC dX0_isOut_22 (q := 23) rfl rfl ?_
  rw [(hK c hc1).1]
  refine x_icmp_eq hC dX0_isOut_23 (q := 26) rfl (tgt := 29) rfl (fun h23 => ?_) (fun h23 => ?_)
  · have hkc : kO σ 0 c 0 = some q := (hl.kil hpP hok hc1 hq).mp h23
    obtain ⟨-, p, hpr, h33⟩ := hpP.2.1 c q (by rw [hl.1]; exact hc1) hkc
    have hpl : kO σ 1 q p = some c := (hpP.1 q p c).mpr ⟨by rw [hl.1]; exact hc1, hkc, h33⟩
    have hp6 : p ≤ 6 := by have := hw.2.2.2.1 q hq2; omega
    obtain ⟨hO0, hI33⟩ := hW.2.2.2.1 c ⟨q, p, hq, hf, hpl⟩
    obtain ⟨hI34, hI36⟩ := hW.2.2.2.2.2.1 q p c hq hf hpl
    obtain ⟨tz, tz1, tz2, tz3⟩ : ∃ z : Int, wT (aFo α) σ (nI st) c q p = iI z ∧ 0 ≤ z ∧ z ≤ 99 := by unfold wT; rw [hht2]; exact aTempR hok hl hc1 hh20 hp6
    obtain ⟨m16, m17⟩ := (hAI.2.2 c hc1).2 q hkc h41b st hst
    rw [← hht, h33, iI_nat] at m16 m17
    have h34n : ¬ iI (kI ρ 34 c) = -1 := fun w => by
      rw [hI34, toI, tz1] at w
      have := (iI_eq (b := -1) ⟨by omega, by omega⟩ ⟨by decide, by decide⟩).mp w
      omega
    refine x_aloadr_n hC dX0_isOut_29 (q := 30) rfl rfl ?_
    refine x_iload hC dX0_isOut_30 (q := 32) rfl rfl ?_
    refine x_iconst hC dX0_isOut_32 (q := 33) rfl (v := (2)) (by decide) ?_
    refine x_callV hC xv_X0_63 dX0_isOut_33 (q := 36) rfl rfl (m_X2_child_2 h0 ρ gF hwr c hc2) (nn := (0, 0)) rfl rfl rfl (Nat.le_of_ble_eq_true rfl) ⟨(by (try dsimp only); omega), (by (try dsimp only); omega)⟩ ⟨(by (try dsimp only); omega), (by (try dsimp only); omega)⟩ (fun v g1 hp => ?_)
    rw [show kKil ρ c = -1 from by unfold kKil; rw [hO0]] at hp
    obtain ⟨rfl, hg1⟩ := hp
    replace hg1 := hg1.symm
    subst hg1
    refine x_iconst hC dX0_isOut_36 (q := 37) rfl (v := (-1)) (by decide) ?_
    refine x_icmp_ne hC dX0_isOut_37 (q := 40) rfl (tgt := 92) rfl (fun h37 => ?_) (fun h37 => ?_)
    · exact absurd rfl h37
    refine x_aloadr_n hC dX0_isOut_40 (q := 41) rfl rfl ?_
    refine x_iload hC dX0_isOut_41 (q := 43) rfl rfl ?_
    refine x_iconst hC dX0_isOut_43 (q := 44) rfl (v := (4)) (by decide) ?_
    refine x_callV hC xv_X0_63 dX0_isOut_44 (q := 47) rfl rfl (m_X2_child_4 h0 ρ gF hwr c hc2) (nn := (0, 0)) rfl rfl rfl (Nat.le_of_ble_eq_true rfl) ⟨(by (try dsimp only); omega), (by (try dsimp only); omega)⟩ ⟨(by (try dsimp only); omega), (by (try dsimp only); omega)⟩ (fun v g1 hp => ?_)
    rw [if_neg h34n] at hp
    obtain ⟨rfl, hg1⟩ := hp
    replace hg1 := hg1.symm
    subst hg1
    refine x_iconst hC dX0_isOut_47 (q := 48) rfl (v := (1)) (by decide) ?_
    refine x_icmp_ne hC dX0_isOut_48 (q := 51) rfl (tgt := 92) rfl (fun h48 => ?_) (fun h48 => ?_)
    · exact absurd rfl h48
    refine x_aloadr_n hC dX0_isOut_51 (q := 52) rfl rfl ?_
    refine x_iload hC dX0_isOut_52 (q := 54) rfl rfl ?_
    refine x_iconst hC dX0_isOut_54 (q := 55) rfl (v := (5)) (by decide) ?_
    refine x_callV hC xv_X0_63 dX0_isOut_55 (q := 58) rfl rfl (m_X2_child_5 h0 ρ gF hwr c hc2) (nn := (0, 0)) rfl rfl rfl (Nat.le_of_ble_eq_true rfl) ⟨(by (try dsimp only); omega), (by (try dsimp only); omega)⟩ ⟨(by (try dsimp only); omega), (by (try dsimp only); omega)⟩ (fun v g1 hp => ?_)
    rw [hI34, toI] at hp
    obtain ⟨rfl, hg1⟩ := hp
    replace hg1 := hg1.symm
    subst hg1
    refine x_aloadr_n hC dX0_isOut_58 (q := 59) rfl rfl ?_
    refine x_get hC xf_X0_228_16 dX0_isOut_59 (q := 62) rfl (n := (120, 0)) hd0 rfl ?_
    refine x_iload hC dX0_isOut_62 (q := 64) rfl rfl ?_
    refine x_aald hC dX0_isOut_64 (q := 65) rfl (n := (132, 0)) hdr (j := c) rfl (by omega) (by decide) rfl ?_
    refine x_iload hC dX0_isOut_65 (q := 67) rfl rfl ?_
    refine x_iald hC dX0_isOut_67 (q := 68) rfl (n := (133, c)) (hdx c (by omega)).1 (j := st) rfl hst (by decide) ?_
    rw [m16]
    refine x_icmp_ne hC dX0_isOut_68 (q := 71) rfl (tgt := 92) rfl (fun h68 => ?_) (fun h68 => ?_)
    · exact absurd rfl h68
    refine x_aloadr_n hC dX0_isOut_71 (q := 72) rfl rfl ?_
    refine x_iload hC dX0_isOut_72 (q := 74) rfl rfl ?_
    refine x_bipush hC dX0_isOut_74 (q := 76) rfl (v := (6)) (by decide) ?_
    refine x_callV hC xv_X0_63 dX0_isOut_76 (q := 79) rfl rfl (m_X2_child_6 h0 ρ gF hwr c hc2) (nn := (0, 0)) rfl rfl rfl (Nat.le_of_ble_eq_true rfl) ⟨(by (try dsimp only); omega), (by (try dsimp only); omega)⟩ ⟨(by (try dsimp only); omega), (by (try dsimp only); omega)⟩ (fun v g1 hp => ?_)
    rw [hI36, toI] at hp
    obtain ⟨rfl, hg1⟩ := hp
    replace hg1 := hg1.symm
    subst hg1
    refine x_aloadr_n hC dX0_isOut_79 (q := 80) rfl rfl ?_
    refine x_get hC xf_X0_157_16 dX0_isOut_80 (q := 83) rfl (n := (120, 0)) hd0 rfl ?_
    refine x_iload hC dX0_isOut_83 (q := 85) rfl rfl ?_
    refine x_aald hC dX0_isOut_85 (q := 86) rfl (n := (134, 0)) hdc (j := c) rfl (by omega) (by decide) rfl ?_
    refine x_iload hC dX0_isOut_86 (q := 88) rfl rfl ?_
    refine x_iald hC dX0_isOut_88 (q := 89) rfl (n := (135, c)) (hdx c (by omega)).2 (j := st) rfl hst (by decide) ?_
    rw [m17]
    refine x_icmp_eq hC dX0_isOut_89 (q := 92) rfl (tgt := 94) rfl (fun h89 => ?_) (fun h89 => ?_)
    · have hx89 := h89
      refine x_iload hC dX0_isOut_94 (q := 96) rfl rfl ?_
      refine x_aloadr_n hC dX0_isOut_96 (q := 97) rfl rfl ?_
      refine x_iload hC dX0_isOut_97 (q := 99) rfl rfl ?_
      refine x_bipush hC dX0_isOut_99 (q := 101) rfl (v := (6)) (by decide) ?_
      refine x_callV hC xv_X0_63 dX0_isOut_101 (q := 104) rfl rfl (m_X2_child_6 h0 ρ gF hwr c hc2) (nn := (0, 0)) rfl rfl rfl (Nat.le_of_ble_eq_true rfl) ⟨(by (try dsimp only); omega), (by (try dsimp only); omega)⟩ ⟨(by (try dsimp only); omega), (by (try dsimp only); omega)⟩ (fun v g1 hp => ?_)
      rw [hI36, toI] at hp
      obtain ⟨rfl, hg1⟩ := hp
      replace hg1 := hg1.symm
      subst hg1
      refine x_iadd hC dX0_isOut_104 (q := 105) rfl ?_
      rw [wQ_s (F := aFo α) (gu := nI st) hkc h33]
      refine x_istore hC dX0_isOut_105 (q := 107) rfl rfl ?_
      refine x_aloadr_n hC dX0_isOut_107 (q := 108) rfl rfl ?_
      refine x_iload hC dX0_isOut_108 (q := 110) rfl rfl ?_
      refine x_callV hC xv_X0_230 dX0_isOut_110 (q := 113) rfl rfl (m_X2_brothers_f h0 ρ gF hwr c hc2 h34n) (nn := (0, 0)) rfl rfl rfl (Nat.le_of_ble_eq_true rfl) ⟨(by (try dsimp only); omega), (by (try dsimp only); omega)⟩ ⟨(by (try dsimp only); omega), (by (try dsimp only); omega)⟩ (fun v g1 hp => ?_)
      obtain ⟨S, rfl, hS, hg1⟩ := hp
      replace hg1 := hg1.symm
      subst hg1
      refine x_iconst hC dX0_isOut_113 (q := 114) rfl (v := (1)) (by decide) ?_
      refine x_iload hC dX0_isOut_114 (q := 116) rfl rfl ?_
      refine x_ishl hC dX0_isOut_116 (q := 117) rfl ?_
      refine x_aloadr_n hC dX0_isOut_117 (q := 118) rfl rfl ?_
      refine x_aloadr_n hC dX0_isOut_118 (q := 119) rfl rfl ?_
      refine x_aloadr_n hC dX0_isOut_119 (q := 120) rfl rfl ?_
      refine x_iload hC dX0_isOut_120 (q := 122) rfl rfl ?_
      refine x_iconst hC dX0_isOut_122 (q := 123) rfl (v := (1)) (by decide) ?_
      refine x_iload hC dX0_isOut_123 (q := 125) rfl rfl ?_
      rw [hht2]
      refine x_callS hC xv_X0_233 dX0_isOut_125 (q := 128) rfl rfl (m_inARow_r h0 σ ρ gF hD hA hok hl hw hpP hwr h61 hK hq hTm hh20 hht2 hpl) rfl (Nat.le_of_ble_eq_true rfl) ⟨(by (try dsimp only); omega), (by (try dsimp only); omega)⟩ ⟨(by (try dsimp only); omega), (by (try dsimp only); omega)⟩ (fun v g1 hp => ?_)
      obtain ⟨X, rfl, hX, hg1⟩ := hp
      replace hg1 := hg1.symm
      subst hg1
      refine x_ior hC dX0_isOut_128 (q := 129) rfl ?_
      refine x_aloadr_n hC dX0_isOut_129 (q := 130) rfl rfl ?_
      refine x_aloadr_n hC dX0_isOut_130 (q := 131) rfl rfl ?_
      refine x_aloadr_n hC dX0_isOut_131 (q := 132) rfl rfl ?_
      refine x_iload hC dX0_isOut_132 (q := 134) rfl rfl ?_
      refine x_iconst hC dX0_isOut_134 (q := 135) rfl (v := (-1)) (by decide) ?_
      refine x_iload hC dX0_isOut_135 (q := 137) rfl rfl ?_
      refine x_callS hC xv_X0_233 dX0_isOut_137 (q := 140) rfl rfl (m_inARow_l h0 σ ρ gF hD hA hok hl hw hpP hwr h61 hK hq hTm hh20 hht2 hpl) rfl (Nat.le_of_ble_eq_true rfl) ⟨(by (try dsimp only); omega), (by (try dsimp only); omega)⟩ ⟨(by (try dsimp only); omega), (by (try dsimp only); omega)⟩ (fun v g1 hp => ?_)
      obtain ⟨Y, rfl, hY, hg1⟩ := hp
      replace hg1 := hg1.symm
      subst hg1
      rw [← hht2]
      refine x_ior hC dX0_isOut_140 (q := 141) rfl ?_
      refine x_icmp_eq hC dX0_isOut_141 (q := 144) rfl (tgt := 146) rfl (fun h141 => ?_) (fun h141 => ?_)
      · have hx141 := h141
        refine x_iinc hC dX0_isOut_146 (q := 149) rfl rfl (v := nI (c + 1)) (nI_1 c) ?_
        refine x_goto hC dX0_isOut_149 (tgt := 6) rfl ?_
        first
          | exact ih (c + 1) (by (try dsimp only); omega) (by (try dsimp only); omega)
          | (rw [← wQ_n (F := aFo α) (gu := nI st) hnk]; exact ih (c + 1) (by (try dsimp only); omega) (by (try dsimp only); omega))
      · exact absurd (kBr_eq hS (RL_S hpP hw.1 hM hRw h61 hW.2.2.2.2.2.2.1 hq hf hpl hX hY)) h141
    · exact absurd rfl h89
  have hnk : ¬ kO σ 0 c 0 = some q := fun w => h23 ((hl.kil hpP hok hc1 hq).mpr w)
  refine x_goto hC dX0_isOut_26 (tgt := 146) rfl ?_
  refine x_iinc hC dX0_isOut_146 (q := 149) rfl rfl (v := nI (c + 1)) (nI_1 c) ?_
  refine x_goto hC dX0_isOut_149 (tgt := 6) rfl ?_
  first
    | exact ih (c + 1) (by (try dsimp only); omega) (by (try dsimp only); omega)
    | (rw [← wQ_n (F := aFo α) (gu := nI st) hnk]; exact ih (c + 1) (by (try dsimp only); omega) (by (try dsimp only); omega))
