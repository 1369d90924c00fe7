/-! Bench is made -/
theorem kBF_57 {σ : KS} {gF : xG} {a aT aC kl : Nat} {h : Int32} {o : Nat} {t k : Nat → Nat → Int32} {c : Nat} (hc : c < 8) : kmix σ (kBF gF a aT aC kl h o t k) (57, c) = some (aT + 1 + c, xAi .int 6 (t c)) := by
  rw [kmix_F _ _ _ rfl]; simp [kBF, hc]
theorem kBF_59 {σ : KS} {gF : xG} {a aT aC kl : Nat} {h : Int32} {o : Nat} {t k : Nat → Nat → Int32} {c : Nat} (hc : c < 8) : kmix σ (kBF gF a aT aC kl h o t k) (59, c) = some (aC + 1 + c, xAi .boolean 6 (k c)) := by
  rw [kmix_F _ _ _ rfl]; simp [kBF, hc]

set_option maxHeartbeats 4000000 in
set_option maxRecDepth 100000 in
theorem m_X21_init {l : Launch} {s0 : State} {D : va_G} (h0 : x0 l s0 D) (σ : KS) (gF : xG) (f : aEnv) {F : Nat → Option (aEnv → Int64)} (hF : kF gF σ F) (hw : KW σ) (hNB : kNB gF) {a : Nat} (kq : Nat) (hq : kq < kA σ 62 0) (hh : Int32) : xMet l s0 D yX21_init cX21_init 7 none (xr 38 18 112 1600) [.ref a, .ref (kA σ 0 0), .ref (kA σ 21 kq), .int hh] (kmix (kT σ f) (xu gF (55, 0) (some (a, xO 18 [.null, .int 0, .null, .null, .null])))) (fun r g1 => ∃ f1 aT aC, r = none ∧ g1 = kmix (kT σ f1) (kBF gF a aT aC (kA σ 21 kq) hh (kA σ 0 0) (kBt (fun j q => kTemp F σ j hh (nI q)) σ kq (kA σ 61 0) 0) (kBt (fun j q => kCrack F σ j hh (nI q)) σ kq (kA σ 61 0) 0))) := by
  refine xMet.of h0 (by decide +kernel) rfl ?_
  intro p e s m args below meth c hC hr hnm
  refine x_aloadr_n hC dX21_init_0 (q := 1) rfl rfl ?_
  refine x_aloadr_n hC dX21_init_1 (q := 2) rfl rfl ?_
  refine x_putF hC hnm (n := (55, 0)) xff_X21_3_18 xd_18 rfl dX21_init_2 (q := 5) rfl (by rw [kmix_F _ _ _ rfl]; exact xu_eq _ _ _) rfl rfl rfl ?_
  refine x_geq (g' := kmix (kT σ f) (xu gF (55, 0) (some (a, xO 18 [.null, .int 0, .null, .null, .ref (kA σ 0 0)])))) (by
    repeat rw [kmix_xuF _ _ _ _ rfl]
    all_goals first
      | rfl
      | (refine congrArg (kmix (kT σ f)) ?_; funext k; simp only [xu]; (repeat' split) <;> first | rfl | simp_all)) ?_
  refine x_aloadr_n hC dX21_init_5 (q := 6) rfl rfl ?_
  refine x_objInit hC q1672 q124 q125 dX21_init_6 (q := 9) rfl (by decide) (Nat.le_of_ble_eq_true rfl) (Nat.le_of_ble_eq_true rfl) ?_
  refine x_aloadr_n hC dX21_init_9 (q := 10) rfl rfl ?_
  refine x_bipush hC dX21_init_10 (q := 12) rfl (v := (8)) (by decide) ?_
  refine x_bipush hC dX21_init_12 (q := 14) rfl (v := (6)) (by decide) ?_
  refine x_multi hC (56, 0) (ki := 57) (N := 8) (M := 6) (ty := .int) (Or.inl rfl) q1673 q1603 q159 dX21_init_14 (q := 18) rfl rfl rfl (by decide) (hNB (56, 0) (by decide) (by decide)) (fun j _ => hNB (57, j) (show 55 ≤ 57 by decide) (show 57 ≤ 59 by decide)) rfl rfl (by decide) (by decide) (Nat.le_of_ble_eq_true rfl) (Nat.le_of_ble_eq_true rfl) (fun aT => ?_)
  refine x_geq (g' := kmix (kT σ f) (xu (xmu gF (56, 0) 57 8 6 .int aT) (55, 0) (some (a, xO 18 [.null, .int 0, .null, .null, .ref (kA σ 0 0)])))) (by
    rw [kmix_xmu _ _ _ _ _ _ _ _ rfl rfl]
    refine congrArg (kmix (kT σ f)) ?_
    funext k
    simp only [xu, xmu]
    (repeat' split) <;> first | rfl | simp_all) ?_
  refine x_putF hC hnm (n := (55, 0)) xff_X21_17_18 xd_18 rfl dX21_init_18 (q := 21) rfl rfl rfl rfl rfl ?_
  refine x_geq (g' := kmix (kT σ f) (xu (xmu gF (56, 0) 57 8 6 .int aT) (55, 0) (some (a, xO 18 [.null, .int 0, .ref aT, .null, .ref (kA σ 0 0)])))) (by
    repeat rw [kmix_xuF _ _ _ _ rfl]
    all_goals first
      | rfl
      | (refine congrArg (kmix (kT σ f)) ?_; funext k; simp only [xu]; (repeat' split) <;> first | rfl | simp_all)) ?_
  refine x_aloadr_n hC dX21_init_21 (q := 22) rfl rfl ?_
  refine x_bipush hC dX21_init_22 (q := 24) rfl (v := (8)) (by decide) ?_
  refine x_bipush hC dX21_init_24 (q := 26) rfl (v := (6)) (by decide) ?_
  refine x_multi hC (58, 0) (ki := 59) (N := 8) (M := 6) (ty := .boolean) (Or.inr rfl) q1674 q1675 q1657 dX21_init_26 (q := 30) rfl rfl rfl (by decide) (hNB (58, 0) (by decide) (by decide)) (fun j _ => hNB (59, j) (show 55 ≤ 59 by decide) (show 59 ≤ 59 by decide)) rfl rfl (by decide) (by decide) (Nat.le_of_ble_eq_true rfl) (Nat.le_of_ble_eq_true rfl) (fun aC => ?_)
  refine x_geq (g' := kmix (kT σ f) (xu (xmu (xmu gF (56, 0) 57 8 6 .int aT) (58, 0) 59 8 6 .boolean aC) (55, 0) (some (a, xO 18 [.null, .int 0, .ref aT, .null, .ref (kA σ 0 0)])))) (by
    rw [kmix_xmu _ _ _ _ _ _ _ _ rfl rfl]
    refine congrArg (kmix (kT σ f)) ?_
    funext k
    simp only [xu, xmu]
    (repeat' split) <;> first | rfl | simp_all) ?_
  refine x_putF hC hnm (n := (55, 0)) xff_X21_22_18 xd_18 rfl dX21_init_30 (q := 33) rfl rfl rfl rfl rfl ?_
  refine x_geq (g' := kmix (kT σ f) (xu (xmu (xmu gF (56, 0) 57 8 6 .int aT) (58, 0) 59 8 6 .boolean aC) (55, 0) (some (a, xO 18 [.null, .int 0, .ref aT, .ref aC, .ref (kA σ 0 0)])))) (by
    repeat rw [kmix_xuF _ _ _ _ rfl]
    all_goals first
      | rfl
      | (refine congrArg (kmix (kT σ f)) ?_; funext k; simp only [xu]; (repeat' split) <;> first | rfl | simp_all)) ?_
  refine x_aloadr_n hC dX21_init_33 (q := 34) rfl rfl ?_
  refine x_aloadr_n hC dX21_init_34 (q := 35) rfl rfl ?_
  refine x_putF hC hnm (n := (55, 0)) xff_X21_25_18 xd_18 rfl dX21_init_35 (q := 38) rfl rfl rfl rfl rfl ?_
  refine x_geq (g' := kmix (kT σ f) (xu (xmu (xmu gF (56, 0) 57 8 6 .int aT) (58, 0) 59 8 6 .boolean aC) (55, 0) (some (a, xO 18 [.ref (kA σ 21 kq), .int 0, .ref aT, .ref aC, .ref (kA σ 0 0)])))) (by
    repeat rw [kmix_xuF _ _ _ _ rfl]
    all_goals first
      | rfl
      | (refine congrArg (kmix (kT σ f)) ?_; funext k; simp only [xu]; (repeat' split) <;> first | rfl | simp_all)) ?_
  refine x_aloadr_n hC dX21_init_38 (q := 39) rfl rfl ?_
  refine x_iload_n hC dX21_init_39 (q := 40) rfl rfl ?_
  refine x_putF hC hnm (n := (55, 0)) xff_X21_29_18 xd_18 rfl dX21_init_40 (q := 43) rfl rfl rfl rfl rfl ?_
  refine x_geq (g' := kmix (kT σ f) (kBF gF a aT aC (kA σ 21 kq) hh (kA σ 0 0) (kBt (fun j q => kTemp F σ j hh (nI q)) σ kq 0 0) (kBt (fun j q => kCrack F σ j hh (nI q)) σ kq 0 0))) (by
    rw [kmix_xuF _ _ _ _ rfl, kBt_0, kBt_0]
    refine congrArg (kmix (kT σ f)) ?_
    funext k
    simp only [xu, xmu, kBF]
    (repeat' split) <;> first | rfl | simp_all) ?_
  refine x_iconst hC dX21_init_43 (q := 44) rfl (v := (0)) (by decide) ?_
  refine x_istore hC dX21_init_44 (q := 46) rfl rfl ?_
  refine x_loop (S := (fun i : Nat × aEnv => ((18 : Nat), (112 : Nat), kmix (kT σ i.2) (kBF gF a aT aC (kA σ 21 kq) hh (kA σ 0 0) (kBt (fun j q => kTemp F σ j hh (nI q)) σ kq i.1 0) (kBt (fun j q => kCrack F σ j hh (nI q)) σ kq i.1 0)), ([some (.ref a), some (.ref (kA σ 0 0)), some (.ref (kA σ 21 kq)), some (.int hh), some (.int (nI i.1)), none, none] : xL), ([] : List Value)))) (Inv := fun i => i.1 ≤ kA σ 61 0) (μ := fun i => kA σ 61 0 - i.1) ?_ (0, f) (Nat.zero_le _)
  intro ⟨c1, f2⟩ hi ih
  dsimp only at hi ih ⊢
  refine x_iload hC dX21_init_46 (q := 48) rfl rfl ?_
  refine x_aloadr_n hC dX21_init_48 (q := 49) rfl rfl ?_
  refine x_callVN hC xv_X21_33 dX21_init_49 (q := 52) rfl rfl (m_X2_children h0 (kT σ f2) _) (nn := (0, 0)) rfl rfl rfl (Nat.le_of_ble_eq_true rfl) ⟨(Nat.le_of_ble_eq_true rfl), (Nat.le_of_ble_eq_true rfl)⟩ ⟨(Nat.le_of_ble_eq_true rfl), (Nat.le_of_ble_eq_true rfl)⟩ (fun v g1 hp => ?_)
  obtain ⟨rfl, hg1⟩ := hp
  replace hg1 := hg1.symm
  subst hg1
  refine x_icmp_ge hC dX21_init_52 (q := 55) rfl (tgt := 146) rfl (fun h52 => ?_) (fun h52 => ?_)
  · have hi3 : c1 = kA σ 61 0 := by
      have := hw.1
      have h2 : nI (kA σ 61 0) ≤ nI c1 := h52
      have := (nI_leI (by omega) (by omega)).mp h2
      omega
    exact x_vret hC hr dX21_init_146 (Nat.le_of_ble_eq_true rfl) (Nat.le_of_ble_eq_true rfl) ⟨f2, aT, aC, rfl, by rw [hi3]⟩
  have hc8 := hw.1
  have hi2 : c1 < kA σ 61 0 := Nat.lt_of_not_le (fun q => h52 (show nI (kA σ 61 0) ≤ nI c1 from nI_le q (by omega)))
  replace hc8 : c1 < 8 := by omega
  refine x_aloadr_n hC dX21_init_55 (q := 56) rfl rfl ?_
  refine x_get hC xf_X21_37_1 dX21_init_56 (q := 59) rfl (n := (0, 0)) rfl rfl ?_
  refine x_get hC xf_X21_41_2 dX21_init_59 (q := 62) rfl (n := (3, 0)) rfl rfl ?_
  refine x_iload hC dX21_init_62 (q := 64) rfl rfl ?_
  refine x_callV hC xv_X21_46 dX21_init_64 (q := 67) rfl rfl (m_childAt h0 (kT σ f2) _ hw.c61 c1 hi2) (nn := (4, 0)) rfl rfl rfl (Nat.le_of_ble_eq_true rfl) ⟨(Nat.le_of_ble_eq_true rfl), (Nat.le_of_ble_eq_true rfl)⟩ ⟨(Nat.le_of_ble_eq_true rfl), (Nat.le_of_ble_eq_true rfl)⟩ (fun v g1 hp => ?_)
  obtain ⟨rfl, hg1⟩ := hp
  replace hg1 := hg1.symm
  subst hg1
  refine x_castS hC q1678 rfl dX21_init_67 (q := 70) rfl (n := (20, c1)) (kg_20 (σ := kT σ f2) c1 hi2) ?_
  refine x_astorer hC dX21_init_70 (q := 72) rfl rfl ?_
  refine x_aloadr hC dX21_init_72 (q := 74) rfl rfl ?_
  refine x_get hC xf_X21_54_5 dX21_init_74 (q := 77) rfl (n := (20, c1)) (kg_20 (σ := kT σ f2) c1 hi2) rfl ?_
  refine x_aloadr_n hC dX21_init_77 (q := 78) rfl rfl ?_
  refine x_acmp_eq (rx := (kO σ 0 c1 0).map (kA σ 21)) (ry := some (kA σ 21 kq)) hC dX21_init_78 (q := 81) rfl (tgt := 84) rfl (fun h78 => ?_) (fun h78 => ?_)
  · refine x_inj (fun hinj => ?_)
    have hck : kO σ 0 c1 0 = some kq := by
      cases hk : kO σ 0 c1 0 with
      | none => rw [hk] at h78; cases h78
      | some q1 =>
        rw [hk] at h78
        have e1 : kA σ 21 q1 = kA σ 21 kq := Option.some.inj h78
        have hq1 := hw.2.2.2.2.1 c1 q1 hi2 hk
        have e2 := kg_21 (σ := kT σ f2) (gF := (kBF gF a aT aC (kA σ 21 kq) hh (kA σ 0 0) (kBt (fun j q => kTemp F σ j hh (nI q)) σ kq c1 0) (kBt (fun j q => kCrack F σ j hh (nI q)) σ kq c1 0))) q1 hq1
        rw [show kA (kT σ f2) 21 q1 = kA σ 21 kq from e1] at e2
        have := hinj (21, q1) (21, kq) _ _ _ (show 21 < 1000 by decide) (show 21 < 1000 by decide) e2 (kg_21 (σ := kT σ f2) kq hq)
        cases this; rfl
    refine x_iconst hC dX21_init_84 (q := 85) rfl (v := (0)) (by decide) ?_
    refine x_istore hC dX21_init_85 (q := 87) rfl rfl ?_
    refine x_loop (S := (fun i : Nat × aEnv => ((18 : Nat), (112 : Nat), kmix (kT σ i.2) (kBF gF a aT aC (kA σ 21 kq) hh (kA σ 0 0) (kBt (fun j q => kTemp F σ j hh (nI q)) σ kq c1 i.1) (kBt (fun j q => kCrack F σ j hh (nI q)) σ kq c1 i.1)), ([some (.ref a), some (.ref (kA σ 0 0)), some (.ref (kA σ 21 kq)), some (.int hh), some (.int (nI c1)), some (.ref (kA σ 20 c1)), some (.int (nI i.1))] : xL), ([] : List Value)))) (Inv := fun i => i.1 ≤ kA σ 25 kq) (μ := fun i => kA σ 25 kq - i.1) ?_ (0, f2) (Nat.zero_le _)
    intro ⟨p1, f3⟩ hp1 ihp
    dsimp only at hp1 ihp ⊢
    refine x_iload hC dX21_init_87 (q := 89) rfl rfl ?_
    refine x_aloadr_n hC dX21_init_89 (q := 90) rfl rfl ?_
    refine x_get hC xf_X21_55_6 dX21_init_90 (q := 93) rfl (n := (21, kq)) (kg_21 kq hq) rfl ?_
    refine x_icmp_ge hC dX21_init_93 (q := 96) rfl (tgt := 140) rfl (fun h93 => ?_) (fun h93 => ?_)
    · have hp3 : kA σ 25 kq ≤ p1 := by
        have := hw.2.2.2.1 kq hq
        exact (nI_leI (by omega) (by omega)).mp h93
      refine x_iinc hC dX21_init_140 (q := 143) rfl rfl (v := nI (c1 + 1)) (nI_1 c1) ?_
      refine x_goto hC dX21_init_143 (tgt := 46) rfl ?_
      first
        | (refine x_geq (g' := kmix (kT σ f3) (kBF gF a aT aC (kA σ 21 kq) hh (kA σ 0 0) (kBt (fun j q => kTemp F σ j hh (nI q)) σ kq (c1 + 1) 0) (kBt (fun j q => kCrack F σ j hh (nI q)) σ kq (c1 + 1) 0))) (by rw [kBt_in hp3, kBt_in hp3]) ?_
           refine x_lvle (lv' := [some (.ref a), some (.ref (kA σ 0 0)), some (.ref (kA σ 21 kq)), some (.int hh), some (.int (nI (c1 + 1))), none, none]) (by repeat' constructor) ?_
           exact ih (c1 + 1, f3) (by dsimp only; omega) (by dsimp only; omega))
        | (refine x_geq (g' := kmix (kT σ f2) (kBF gF a aT aC (kA σ 21 kq) hh (kA σ 0 0) (kBt (fun j q => kTemp F σ j hh (nI q)) σ kq (c1 + 1) 0) (kBt (fun j q => kCrack F σ j hh (nI q)) σ kq (c1 + 1) 0))) (by rw [kBt_out hck, kBt_out hck]) ?_
           refine x_lvle (lv' := [some (.ref a), some (.ref (kA σ 0 0)), some (.ref (kA σ 21 kq)), some (.int hh), some (.int (nI (c1 + 1))), none, none]) (by repeat' constructor) ?_
           exact ih (c1 + 1, f2) (by dsimp only; omega) (by dsimp only; omega))
    have hr6 := hw.2.2.2.1 kq hq
    have hp2 : p1 < kA σ 25 kq := Nat.lt_of_not_le (fun q => h93 (nI_le q (by omega)))
    refine x_aloadr_n hC dX21_init_96 (q := 97) rfl rfl ?_
    refine x_get hC xf_X21_17_18 dX21_init_97 (q := 100) rfl (n := (55, 0)) rfl rfl ?_
    refine x_iload hC dX21_init_100 (q := 102) rfl rfl ?_
    refine x_aald hC dX21_init_102 (q := 103) rfl (n := (56, 0)) rfl (j := c1) rfl hc8 (by decide) rfl ?_
    refine x_iload hC dX21_init_103 (q := 105) rfl rfl ?_
    refine x_aloadr_n hC dX21_init_105 (q := 106) rfl rfl ?_
    refine x_aloadr hC dX21_init_106 (q := 108) rfl rfl ?_
    refine x_iload_n hC dX21_init_108 (q := 109) rfl rfl ?_
    refine x_iload hC dX21_init_109 (q := 111) rfl rfl ?_
    refine x_callVN hC xv_X21_60 dX21_init_111 (q := 114) rfl rfl (m_X2_temperOf h0 σ _ f3 (kF_mono hF (kBF_sub hNB)) c1 hi2 hh (nI p1)) (nn := (0, 0)) rfl rfl rfl (Nat.le_of_ble_eq_true rfl) ⟨(Nat.le_of_ble_eq_true rfl), (Nat.le_of_ble_eq_true rfl)⟩ ⟨(Nat.le_of_ble_eq_true rfl), (Nat.le_of_ble_eq_true rfl)⟩ (fun v g1 hp => ?_)
    obtain ⟨f4, rfl, hg1⟩ := hp
    replace hg1 := hg1.symm
    subst hg1
    refine x_iast hC dX21_init_114 (q := 115) rfl (n := (57, c1)) rfl (kBF_57 hc8) (j := p1) rfl (by omega) (by decide) ?_
    refine x_geq (g' := kmix (kT σ f4) (kBF gF a aT aC (kA σ 21 kq) hh (kA σ 0 0) (kBt (fun j q => kTemp F σ j hh (nI q)) σ kq c1 (p1 + 1)) (kBt (fun j q => kCrack F σ j hh (nI q)) σ kq c1 p1))) (by rw [kmix_xuF _ _ _ _ rfl, kBF_t hc8, kBt_step hck hp2]) ?_
    refine x_aloadr_n hC dX21_init_115 (q := 116) rfl rfl ?_
    refine x_get hC xf_X21_22_18 dX21_init_116 (q := 119) rfl (n := (55, 0)) rfl rfl ?_
    refine x_iload hC dX21_init_119 (q := 121) rfl rfl ?_
    refine x_aald hC dX21_init_121 (q := 122) rfl (n := (58, 0)) rfl (j := c1) rfl hc8 (by decide) rfl ?_
    refine x_iload hC dX21_init_122 (q := 124) rfl rfl ?_
    refine x_aloadr_n hC dX21_init_124 (q := 125) rfl rfl ?_
    refine x_aloadr hC dX21_init_125 (q := 127) rfl rfl ?_
    refine x_iload_n hC dX21_init_127 (q := 128) rfl rfl ?_
    refine x_iload hC dX21_init_128 (q := 130) rfl rfl ?_
    refine x_callVN hC xv_X21_64 dX21_init_130 (q := 133) rfl rfl (m_X2_doesCrack h0 σ _ f4 (kF_mono hF (kBF_sub hNB)) c1 hi2 hh (nI p1)) (nn := (0, 0)) rfl rfl rfl (Nat.le_of_ble_eq_true rfl) ⟨(Nat.le_of_ble_eq_true rfl), (Nat.le_of_ble_eq_true rfl)⟩ ⟨(Nat.le_of_ble_eq_true rfl), (Nat.le_of_ble_eq_true rfl)⟩ (fun v g1 hp => ?_)
    obtain ⟨f5, rfl, hg1⟩ := hp
    replace hg1 := hg1.symm
    subst hg1
    refine x_zast hC dX21_init_133 (q := 134) rfl (n := (59, c1)) rfl (kBF_59 hc8) (j := p1) rfl (by omega) (by decide) ?_
    refine x_geq (g' := kmix (kT σ f5) (kBF gF a aT aC (kA σ 21 kq) hh (kA σ 0 0) (kBt (fun j q => kTemp F σ j hh (nI q)) σ kq c1 (p1 + 1)) (kBt (fun j q => kCrack F σ j hh (nI q)) σ kq c1 (p1 + 1)))) (by rw [vp01 (kCrack_01 hF c1 hh (nI p1)), kmix_xuF _ _ _ _ rfl, kBF_k hc8, kBt_step (V := (fun j q => kCrack F σ j hh (nI q))) hck hp2]) ?_
    refine x_iinc hC dX21_init_134 (q := 137) rfl rfl (v := nI (p1 + 1)) (nI_1 p1) ?_
    refine x_goto hC dX21_init_137 (tgt := 87) rfl ?_
    exact ihp (p1 + 1, f5) (by dsimp only; omega) (by dsimp only; omega)
  have hck : kO σ 0 c1 0 ≠ some kq := fun q => h78 (by rw [q]; rfl)
  refine x_goto hC dX21_init_81 (tgt := 140) rfl ?_
  refine x_iinc hC dX21_init_140 (q := 143) rfl rfl (v := nI (c1 + 1)) (nI_1 c1) ?_
  refine x_goto hC dX21_init_143 (tgt := 46) rfl ?_
  first
    | (refine x_geq (g' := kmix (kT σ f3) (kBF gF a aT aC (kA σ 21 kq) hh (kA σ 0 0) (kBt (fun j q => kTemp F σ j hh (nI q)) σ kq (c1 + 1) 0) (kBt (fun j q => kCrack F σ j hh (nI q)) σ kq (c1 + 1) 0))) (by rw [kBt_in hp3, kBt_in hp3]) ?_
       refine x_lvle (lv' := [some (.ref a), some (.ref (kA σ 0 0)), some (.ref (kA σ 21 kq)), some (.int hh), some (.int (nI (c1 + 1))), none, none]) (by repeat' constructor) ?_
       exact ih (c1 + 1, f3) (by dsimp only; omega) (by dsimp only; omega))
    | (refine x_geq (g' := kmix (kT σ f2) (kBF gF a aT aC (kA σ 21 kq) hh (kA σ 0 0) (kBt (fun j q => kTemp F σ j hh (nI q)) σ kq (c1 + 1) 0) (kBt (fun j q => kCrack F σ j hh (nI q)) σ kq (c1 + 1) 0))) (by rw [kBt_out hck, kBt_out hck]) ?_
       refine x_lvle (lv' := [some (.ref a), some (.ref (kA σ 0 0)), some (.ref (kA σ 21 kq)), some (.int hh), some (.int (nI (c1 + 1))), none, none]) (by repeat' constructor) ?_
       exact ih (c1 + 1, f2) (by dsimp only; omega) (by dsimp only; omega))
