/-! Settings, best -/
/-- who lies in a kiln, as bits: of the first children -/
def kAl (σ : KS) (kq : Nat) : Nat → Int32
  | 0 => 0
  | c + 1 => if kO σ 0 c 0 = some kq then kAl σ kq c ||| ((1 : Int32) <<< (nI c &&& 31)) else kAl σ kq c
def kZ0 : KZ := (fun _ => 0, fun _ => 0, -1, -1)
/-- the settings behind the first heats -/
def kZh (F : Nat → Option (aEnv → Int64)) (σ : KS) (kq : Nat) : Nat → KZ
  | 0 => kZ0
  | h + 1 => kTri F σ (nI h) (kBT F σ kq (nI h)) (kBK F σ kq (nI h)) (kA σ 25 kq) 0 (kAl σ kq (kA σ 61 0)) (nI (kA σ 25 kq) - nI (kFull σ kq)) 0 (kZh F σ kq h)
def kBe (F : Nat → Option (aEnv → Int64)) (σ : KS) (kq w : Nat) : Int32 := if (kZh F σ kq 21).2.2.1 = -1 then -1 else if w = 0 then (kZh F σ kq 21).2.2.1 else if w = 1 then (kZh F σ kq 21).2.2.2 else (kZh F σ kq 21).2.1 (w - 2)

set_option maxHeartbeats 4000000 in
set_option maxRecDepth 100000 in
theorem m_settings {l : Launch} {s0 : State} {D : va_G} (h0 : x0 l s0 D) (σ : KS) (gF : xG) (f : aEnv) {F : Nat → Option (aEnv → Int64)} (hF : kF gF σ F) (hw : KW σ) (hNB : kNB gF) (hNG : kNG gF) {as : Nat} (kq : Nat) (hq : kq < kA σ 62 0) : xMet l s0 D yX22_init cX22_init 4 none (xr 47 401 2469 2000) [.ref as, .ref (kA σ 0 0), .ref (kA σ 21 kq)] (kmix (kT σ f) (xu gF (61, 0) (some (as, xO 19 [.null, .null, .null, .int 0, .int 0, .int 0, .null])))) (fun r g1 => ∃ f1 a_12 a_20, r = none ∧ g1 = kmix (kT σ f1) (kGF gF as a_12 a_20 (kA σ 21 kq) (kAl σ kq (kA σ 61 0)) (kZh F σ kq 21) (kA σ 0 0))) := by
  refine xMet.of h0 (by decide +kernel) rfl ?_
  intro p e s m args below meth c hC hr hnm
  refine x_aloadr_n hC dX22_init_0 (q := 1) rfl rfl ?_
  refine x_aloadr_n hC dX22_init_1 (q := 2) rfl rfl ?_
  refine x_putF hC hnm (n := (61, 0)) xff_X22_3_19 xd_19 rfl dX22_init_2 (q := 5) rfl (by rw [kmix_F _ _ _ rfl]; exact xu_eq _ _ _) rfl rfl rfl ?_
  refine x_geq (g' := kmix (kT σ f) (xu gF (61, 0) (some (as, xO 19 [.null, .null, .null, .int 0, .int 0, .int 0, .ref (kA σ 0 0)])))) (by
    repeat rw [kmix_xuF _ _ _ _ rfl]
    first
      | rfl
      | (refine congrArg (kmix (kT σ f)) ?_; funext k; simp only [xu]; (repeat' split) <;> first | rfl | simp_all)) ?_
  refine x_aloadr_n hC dX22_init_5 (q := 6) rfl rfl ?_
  refine x_objInit hC q1891 q124 q125 dX22_init_6 (q := 9) rfl (by decide) (Nat.le_of_ble_eq_true rfl) (Nat.le_of_ble_eq_true rfl) ?_
  refine x_aloadr_n hC dX22_init_9 (q := 10) rfl rfl ?_
  refine x_bipush hC dX22_init_10 (q := 12) rfl (v := (6)) (by decide) ?_
  refine x_newa hC (at0 := .int) (N := 6) (x := (6, .inl (fun _ => 0))) (62, 0) q159 dX22_init_12 (q := 14) rfl rfl hNG.2.1 rfl (by decide) (fun _ => rfl) (Nat.le_of_ble_eq_true rfl) (Nat.le_of_ble_eq_true rfl) (fun a_12 => ?_)
  refine x_putF hC hnm (n := (61, 0)) xff_X22_15_19 xd_19 rfl dX22_init_14 (q := 17) rfl rfl rfl rfl rfl ?_
  refine x_geq (g' := kmix (kT σ f) (xu (xu gF (62, 0) (some (a_12, xAi .int 6 (fun _ => 0)))) (61, 0) (some (as, xO 19 [.null, .ref a_12, .null, .int 0, .int 0, .int 0, .ref (kA σ 0 0)])))) (by
    repeat rw [kmix_xuF _ _ _ _ rfl]
    first
      | rfl
      | (refine congrArg (kmix (kT σ f)) ?_; funext k; simp only [xu]; (repeat' split) <;> first | rfl | simp_all)) ?_
  refine x_aloadr_n hC dX22_init_17 (q := 18) rfl rfl ?_
  refine x_bipush hC dX22_init_18 (q := 20) rfl (v := (6)) (by decide) ?_
  refine x_newa hC (at0 := .int) (N := 6) (x := (6, .inl (fun _ => 0))) (63, 0) q159 dX22_init_20 (q := 22) rfl rfl hNG.2.2 rfl (by decide) (fun _ => rfl) (Nat.le_of_ble_eq_true rfl) (Nat.le_of_ble_eq_true rfl) (fun a_20 => ?_)
  refine x_putF hC hnm (n := (61, 0)) xff_X22_19_19 xd_19 rfl dX22_init_22 (q := 25) rfl rfl rfl rfl rfl ?_
  refine x_geq (g' := kmix (kT σ f) (xu (xu (xu gF (62, 0) (some (a_12, xAi .int 6 (fun _ => 0)))) (63, 0) (some (a_20, xAi .int 6 (fun _ => 0)))) (61, 0) (some (as, xO 19 [.null, .ref a_12, .ref a_20, .int 0, .int 0, .int 0, .ref (kA σ 0 0)])))) (by
    repeat rw [kmix_xuF _ _ _ _ rfl]
    first
      | rfl
      | (refine congrArg (kmix (kT σ f)) ?_; funext k; simp only [xu]; (repeat' split) <;> first | rfl | simp_all)) ?_
  refine x_aloadr_n hC dX22_init_25 (q := 26) rfl rfl ?_
  refine x_iconst hC dX22_init_26 (q := 27) rfl (v := (-1)) (by decide) ?_
  refine x_put hC (n := (61, 0)) xf_X22_22_19 xd_19 rfl dX22_init_27 (q := 30) rfl rfl rfl rfl rfl ?_
  refine x_geq (g' := kmix (kT σ f) (xu (xu (xu gF (62, 0) (some (a_12, xAi .int 6 (fun _ => 0)))) (63, 0) (some (a_20, xAi .int 6 (fun _ => 0)))) (61, 0) (some (as, xO 19 [.null, .ref a_12, .ref a_20, .int 0, .int (-1), .int 0, .ref (kA σ 0 0)])))) (by
    repeat rw [kmix_xuF _ _ _ _ rfl]
    first
      | rfl
      | (refine congrArg (kmix (kT σ f)) ?_; funext k; simp only [xu]; (repeat' split) <;> first | rfl | simp_all)) ?_
  refine x_aloadr_n hC dX22_init_30 (q := 31) rfl rfl ?_
  refine x_iconst hC dX22_init_31 (q := 32) rfl (v := (-1)) (by decide) ?_
  refine x_put hC (n := (61, 0)) xf_X22_26_19 xd_19 rfl dX22_init_32 (q := 35) rfl rfl rfl rfl rfl ?_
  refine x_geq (g' := kmix (kT σ f) (xu (xu (xu gF (62, 0) (some (a_12, xAi .int 6 (fun _ => 0)))) (63, 0) (some (a_20, xAi .int 6 (fun _ => 0)))) (61, 0) (some (as, xO 19 [.null, .ref a_12, .ref a_20, .int 0, .int (-1), .int (-1), .ref (kA σ 0 0)])))) (by
    repeat rw [kmix_xuF _ _ _ _ rfl]
    first
      | rfl
      | (refine congrArg (kmix (kT σ f)) ?_; funext k; simp only [xu]; (repeat' split) <;> first | rfl | simp_all)) ?_
  refine x_aloadr_n hC dX22_init_35 (q := 36) rfl rfl ?_
  refine x_aloadr_n hC dX22_init_36 (q := 37) rfl rfl ?_
  refine x_putF hC hnm (n := (61, 0)) xff_X22_29_19 xd_19 rfl dX22_init_37 (q := 40) rfl rfl rfl rfl rfl ?_
  refine x_geq (g' := kmix (kT σ f) (kGF gF as a_12 a_20 (kA σ 21 kq) 0 kZ0 (kA σ 0 0))) (by
    rw [kmix_xuF _ _ _ _ rfl]
    refine congrArg (kmix (kT σ f)) ?_
    funext k
    simp only [xu, kGF, kZ0]
    (repeat' split) <;> first | rfl | simp_all) ?_
  refine x_iconst hC dX22_init_40 (q := 41) rfl (v := (0)) (by decide) ?_
  refine x_istore_n hC dX22_init_41 (q := 42) rfl rfl ?_
  refine x_loop (S := (fun i : Nat => ((2 : Nat), (12 : Nat), kmix (kT σ f) (kGF gF as a_12 a_20 (kA σ 21 kq) (kAl σ kq i) kZ0 (kA σ 0 0)), ([some (.ref as), some (.ref (kA σ 0 0)), some (.ref (kA σ 21 kq)), some (.int (nI i))] : xL), ([] : List Value)))) (Inv := fun i => i ≤ kA σ 61 0) (μ := fun i => kA σ 61 0 - i) ?_ 0 (Nat.zero_le _)
  intro c1 hi ih
  dsimp only at hi ih ⊢
  have h61 := hw.1
  refine x_iload_n hC dX22_init_42 (q := 43) rfl rfl ?_
  refine x_aloadr_n hC dX22_init_43 (q := 44) rfl rfl ?_
  refine x_callVN hC xv_X22_33 dX22_init_44 (q := 47) rfl rfl (m_X2_children h0 (kT σ f) _) (nn := (0, 0)) rfl rfl rfl (Nat.le_of_ble_eq_true rfl) ⟨(Nat.le_of_ble_eq_true rfl), (Nat.le_of_ble_eq_true rfl)⟩ ⟨(Nat.le_of_ble_eq_true rfl), (Nat.le_of_ble_eq_true rfl)⟩ (fun v g1 hp => ?_)
  obtain ⟨rfl, hg1⟩ := hp
  replace hg1 := hg1.symm
  subst hg1
  refine x_icmp_ge hC dX22_init_47 (q := 50) rfl (tgt := 89) rfl (fun h47 => ?_) (fun h47 => ?_)
  · have hc3 : c1 = kA σ 61 0 := by
      have h2 : nI (kA σ 61 0) ≤ nI c1 := h47
      have := (nI_leI (by omega) (by omega)).mp h2
      omega
    clear ih
    rw [hc3]
    clear hc3 hi h47 c1
    refine x_iconst hC dX22_init_89 (q := 90) rfl (v := (0)) (by decide) ?_
    refine x_istore_n hC dX22_init_90 (q := 91) rfl rfl ?_
    refine x_loop (S := (fun i : Nat × aEnv => (2 + 19 * i.1, 12 + 117 * i.1, kmix (kT σ i.2) (kGF gF as a_12 a_20 (kA σ 21 kq) (kAl σ kq (kA σ 61 0)) (kZh F σ kq i.1) (kA σ 0 0)), ([some (.ref as), some (.ref (kA σ 0 0)), some (.ref (kA σ 21 kq)), some (.int (nI i.1))] : xL), ([] : List Value)))) (Inv := fun i => i.1 ≤ 21) (μ := fun i => 21 - i.1) ?_ (0, f) (Nat.zero_le _)
    intro ⟨h1, f2⟩ hi ih
    dsimp only at hi ih ⊢
    refine x_iload_n hC dX22_init_91 (q := 92) rfl rfl ?_
    refine x_bipush hC dX22_init_92 (q := 94) rfl (v := (20)) (by decide) ?_
    refine x_icmp_gt hC dX22_init_94 (q := 97) rfl (tgt := 132) rfl (fun h94 => ?_) (fun h94 => ?_)
    · have hh3 : h1 = 21 := by
        have h2 : nI 20 < nI h1 := h94
        have := (nI_ltI (by decide) (by omega)).mp h2
        omega
      exact x_vret hC hr dX22_init_132 (show 2 + 19 * h1 ≤ 401 by omega) (show 12 + 117 * h1 ≤ 2469 by omega) ⟨f2, a_12, a_20, rfl, by rw [hh3]⟩
    have hh2 : h1 < 21 := by
      have h2 : ¬ nI 20 < nI h1 := h94
      rw [nI_ltI (by decide) (by omega)] at h2
      omega
    refine x_aloadr_n hC dX22_init_97 (q := 98) rfl rfl ?_
    refine x_new hC (fs := [.null, .int 0, .null, .null, .null]) (55, 0) xc_18 q1895 q1668 q115 dX22_init_98 (q := 101) rfl rfl (kNB_GF hNB (55, 0) (by decide) (by decide)) (fun j hj => by match j, hj with | 0, _ => rfl | 1, _ => rfl | 2, _ => rfl | 3, _ => rfl | 4, _ => rfl | j + 5, h => exact absurd h (by omega)) (show 2 + 19 * h1 + 1 ≤ 401 by omega) (show 12 + 117 * h1 + 5 ≤ 2469 by omega) (fun a_98 => ?_)
    refine x_geq (kmix_xuF _ _ _ _ rfl) ?_
    refine x_dup hC dX22_init_101 (q := 102) rfl rfl ?_
    refine x_aloadr_n hC dX22_init_102 (q := 103) rfl rfl ?_
    refine x_aloadr_n hC dX22_init_103 (q := 104) rfl rfl ?_
    refine x_iload_n hC dX22_init_104 (q := 105) rfl rfl ?_
    refine x_callI hC xv_X22_60 dX22_init_105 (q := 108) rfl rfl (m_X21_init h0 σ (kGF gF as a_12 a_20 (kA σ 21 kq) (kAl σ kq (kA σ 61 0)) (kZh F σ kq h1) (kA σ 0 0)) f2 (kF_mono hF (kGF_sub hNG)) hw (kNB_GF hNB) (a := a_98) kq hq (nI h1)) rfl (Nat.le_of_ble_eq_true rfl) ⟨(Nat.le_of_ble_eq_true rfl), (Nat.le_of_ble_eq_true rfl)⟩ ⟨(show 2 + 19 * h1 + 1 + 18 ≤ 401 by omega), (show 12 + 117 * h1 + 5 + 112 ≤ 2469 by omega)⟩ (fun v g1 hp => ?_)
    obtain ⟨f3, aT, aC, rfl, hg1⟩ := hp
    replace hg1 := hg1.symm
    subst hg1
    refine x_geq (g' := kmix (kT σ f3) (kBF (kGF gF as a_12 a_20 (kA σ 21 kq) (kAl σ kq (kA σ 61 0)) (kZh F σ kq h1) (kA σ 0 0)) a_98 aT aC (kA σ 21 kq) (nI h1) (kA σ 0 0) (kBT F σ kq (nI h1)) (kBK F σ kq (nI h1)))) rfl ?_
    refine x_iconst hC dX22_init_108 (q := 109) rfl (v := (0)) (by decide) ?_
    refine x_aloadr_n hC dX22_init_109 (q := 110) rfl rfl ?_
    refine x_get hC xf_X22_55_19 dX22_init_110 (q := 113) rfl (n := (61, 0)) rfl rfl ?_
    refine x_aloadr_n hC dX22_init_113 (q := 114) rfl rfl ?_
    refine x_get hC xf_X22_63_6 dX22_init_114 (q := 117) rfl (n := (21, kq)) (kg_21 (σ := kT σ f3) kq hq) rfl ?_
    refine x_aloadr_n hC dX22_init_117 (q := 118) rfl rfl ?_
    refine x_callV hC xv_X22_68 dX22_init_118 (q := 121) rfl rfl (m_X9_full h0 (kT σ f3) _ kq hq (hw.2.2.2.1 kq hq)) (nn := (21, kq)) (kg_21 (σ := kT σ f3) kq hq) rfl rfl (Nat.le_of_ble_eq_true rfl) ⟨(Nat.le_of_ble_eq_true rfl), (Nat.le_of_ble_eq_true rfl)⟩ ⟨(show 2 + 19 * h1 + 1 + 18 + 0 ≤ 401 by omega), (show 12 + 117 * h1 + 5 + 112 + 0 ≤ 2469 by omega)⟩ (fun v g1 hp => ?_)
    obtain ⟨rfl, hg1⟩ := hp
    replace hg1 := hg1.symm
    subst hg1
    refine x_isub hC dX22_init_121 (q := 122) rfl ?_
    refine x_iconst hC dX22_init_122 (q := 123) rfl (v := (0)) (by decide) ?_
    refine x_callV hC xv_X22_71 dX22_init_123 (q := 126) rfl rfl ((m_tries h0 σ gF hF hw hNB hNG (a := a_98) (as := as) (aR := a_12) (aB := a_20) (aT := aT) (aC := aC) hq (hh := nI h1) (al := (kAl σ kq (kA σ 61 0))) (t := kBT F σ kq (nI h1)) (k := kBK F σ kq (nI h1)) (kA σ 25 kq) 0 (kAl σ kq (kA σ 61 0)) (nI (kA σ 25 kq) - nI (kFull σ kq)) 0 (kZh F σ kq h1) f3 (Nat.zero_add _) (fun j hj => absurd hj (Nat.not_lt_zero j))).room (rm' := xr 46 0 0 1930) (show 40 + kA σ 25 kq ≤ 46 by have := hw.2.2.2.1 kq hq; omega) (Nat.le_refl _) (Nat.le_refl _) (show 1750 + 30 * kA σ 25 kq ≤ 1930 by have := hw.2.2.2.1 kq hq; omega)) (nn := (61, 0)) rfl rfl rfl (Nat.le_of_ble_eq_true rfl) ⟨(Nat.le_of_ble_eq_true rfl), (Nat.le_of_ble_eq_true rfl)⟩ ⟨(show 2 + 19 * h1 + 1 + 18 + 0 + 0 ≤ 401 by omega), (show 12 + 117 * h1 + 5 + 112 + 0 + 0 ≤ 2469 by omega)⟩ (fun v g1 hp => ?_)
    obtain ⟨f4, rfl, hg1⟩ := hp
    replace hg1 := hg1.symm
    subst hg1
    refine x_sub (g' := kmix (kT σ f4) (kGF gF as a_12 a_20 (kA σ 21 kq) (kAl σ kq (kA σ 61 0)) (kZh F σ kq (h1 + 1)) (kA σ 0 0))) (kmix_sub (kBF_sub (kNB_GF hNB))) ?_
    refine x_iinc hC dX22_init_126 (q := 129) rfl rfl (v := nI (h1 + 1)) (nI_1 h1) ?_
    refine x_goto hC dX22_init_129 (tgt := 91) rfl ?_
    refine x_widen (k0 := 2 + 19 * (h1 + 1)) (n0 := 12 + 117 * (h1 + 1)) (by dsimp only [xr]; omega) (by dsimp only [xr]; omega) ?_
    exact ih (h1 + 1, f4) (by dsimp only; omega) (by dsimp only; omega)
  have hc2 : c1 < kA σ 61 0 := Nat.lt_of_not_le (fun q => h47 (show nI (kA σ 61 0) ≤ nI c1 from nI_le q (by omega)))
  refine x_aloadr_n hC dX22_init_50 (q := 51) rfl rfl ?_
  refine x_get hC xf_X22_37_1 dX22_init_51 (q := 54) rfl (n := (0, 0)) rfl rfl ?_
  refine x_get hC xf_X22_41_2 dX22_init_54 (q := 57) rfl (n := (3, 0)) rfl rfl ?_
  refine x_iload_n hC dX22_init_57 (q := 58) rfl rfl ?_
  refine x_callV hC xv_X22_46 dX22_init_58 (q := 61) rfl rfl (m_childAt h0 (kT σ f) _ hw.c61 c1 hc2) (nn := (4, 0)) rfl rfl rfl (Nat.le_of_ble_eq_true rfl) ⟨(Nat.le_of_ble_eq_true rfl), (Nat.le_of_ble_eq_true rfl)⟩ ⟨(Nat.le_of_ble_eq_true rfl), (Nat.le_of_ble_eq_true rfl)⟩ (fun v g1 hp => ?_)
  obtain ⟨rfl, hg1⟩ := hp
  replace hg1 := hg1.symm
  subst hg1
  refine x_castS hC q1894 rfl dX22_init_61 (q := 64) rfl (n := (20, c1)) (kg_20 (σ := kT σ f) c1 hc2) ?_
  refine x_get hC xf_X22_54_5 dX22_init_64 (q := 67) rfl (n := (20, c1)) (kg_20 (σ := kT σ f) c1 hc2) rfl ?_
  refine x_aloadr_n hC dX22_init_67 (q := 68) rfl rfl ?_
  refine x_acmp_ne (rx := (kO σ 0 c1 0).map (kA σ 21)) (ry := some (kA σ 21 kq)) hC dX22_init_68 (q := 71) rfl (tgt := 83) rfl (fun h68 => ?_) (fun h68 => ?_)
  · have hno : ¬ kO σ 0 c1 0 = some kq := fun q => h68 (by rw [q]; rfl)
    refine x_iinc hC dX22_init_83 (q := 86) rfl rfl (v := nI (c1 + 1)) (nI_1 c1) ?_
    refine x_goto hC dX22_init_86 (tgt := 42) rfl ?_
    first
      | (refine x_geq (g' := kmix (kT σ f) (kGF gF as a_12 a_20 (kA σ 21 kq) (kAl σ kq (c1 + 1)) kZ0 (kA σ 0 0))) (by rw [show kAl σ kq (c1 + 1) = kAl σ kq c1 from if_neg hno]) ?_
         exact ih (c1 + 1) (by omega) (by omega))
      | exact ih (c1 + 1) (by omega) (by omega)
  refine x_inj (fun hinj => ?_)
  have hys : kO σ 0 c1 0 = some kq := by
    cases hk : kO σ 0 c1 0 with
    | none => rw [hk] at h68; cases h68
    | some q1 =>
      rw [hk] at h68
      have e1 : kA σ 21 q1 = kA σ 21 kq := Option.some.inj h68
      have hq1 := hw.2.2.2.2.1 c1 q1 hc2 hk
      have e2 := kg_21 (σ := kT σ f) (gF := (kGF gF as a_12 a_20 (kA σ 21 kq) (kAl σ kq c1) kZ0 (kA σ 0 0))) q1 hq1
      rw [show kA (kT σ f) 21 q1 = kA σ 21 kq from e1] at e2
      have := hinj (21, q1) (21, kq) _ _ _ (show 21 < 1000 by decide) (show 21 < 1000 by decide) e2 (kg_21 (σ := kT σ f) kq hq)
      cases this; rfl
  refine x_aloadr_n hC dX22_init_71 (q := 72) rfl rfl ?_
  refine x_dup hC dX22_init_72 (q := 73) rfl rfl ?_
  refine x_get hC xf_X22_55_19 dX22_init_73 (q := 76) rfl (n := (61, 0)) rfl rfl ?_
  refine x_iconst hC dX22_init_76 (q := 77) rfl (v := (1)) (by decide) ?_
  refine x_iload_n hC dX22_init_77 (q := 78) rfl rfl ?_
  refine x_ishl hC dX22_init_78 (q := 79) rfl ?_
  refine x_ior hC dX22_init_79 (q := 80) rfl ?_
  refine x_put hC (n := (61, 0)) xf_X22_55_19 xd_19 rfl dX22_init_80 (q := 83) rfl rfl rfl rfl rfl ?_
  refine x_geq (g' := kmix (kT σ f) (kGF gF as a_12 a_20 (kA σ 21 kq) (kAl σ kq (c1 + 1)) kZ0 (kA σ 0 0))) (by rw [kmix_xuF _ _ _ _ rfl, show kAl σ kq (c1 + 1) = kAl σ kq c1 ||| ((1 : Int32) <<< (nI c1 &&& 31)) from if_pos hys]; exact congrArg (kmix (kT σ f)) kGF_all) ?_
  refine x_iinc hC dX22_init_83 (q := 86) rfl rfl (v := nI (c1 + 1)) (nI_1 c1) ?_
  refine x_goto hC dX22_init_86 (tgt := 42) rfl ?_
  first
    | (refine x_geq (g' := kmix (kT σ f) (kGF gF as a_12 a_20 (kA σ 21 kq) (kAl σ kq (c1 + 1)) kZ0 (kA σ 0 0))) (by rw [show kAl σ kq (c1 + 1) = kAl σ kq c1 from if_neg hno]) ?_
       exact ih (c1 + 1) (by omega) (by omega))
    | exact ih (c1 + 1) (by omega) (by omega)

set_option maxHeartbeats 4000000 in
set_option maxRecDepth 100000 in
theorem m_best_s {l : Launch} {s0 : State} {D : va_G} (h0 : x0 l s0 D) (σ : KS) (gF : xG) (f : aEnv) {F : Nat → Option (aEnv → Int64)} (hF : kF gF σ F) (hw : KW σ) (hNB : kNB gF) (hNG : kNG gF) (kq : Nat) (hq : kq < kA σ 62 0) (hfl : ¬ kFull σ kq = 0) (w : Nat) (hwr : w ≤ 1 + kA σ 25 kq) : xMet l s0 D yX2_best cX2_best 5 (some .int) (xr 48 402 2476 2050) [.ref (kA σ 0 0), .int (nI kq), .int (nI w)] (kmix (kT σ f) gF) (fun r g1 => ∃ f1, r = some (.int (kBe F σ kq w)) ∧ g1 = kmix (kT σ f1) gF) := by
  have h6 := hw.2.2.2.1 kq hq
  refine xMet.of h0 (by decide +kernel) rfl ?_
  intro p e s m args below meth c hC hr hnm
  refine x_aloadr_n hC dX2_best_0 (q := 1) rfl rfl ?_
  refine x_iload_n hC dX2_best_1 (q := 2) rfl rfl ?_
  refine x_callV hC xv_X2_317 dX2_best_2 (q := 5) rfl rfl (m_X2_kilnOf h0 (kT σ f) gF hw kq hq) (nn := (0, 0)) rfl rfl rfl (Nat.le_of_ble_eq_true rfl) ⟨(Nat.le_of_ble_eq_true rfl), (Nat.le_of_ble_eq_true rfl)⟩ ⟨(Nat.le_of_ble_eq_true rfl), (Nat.le_of_ble_eq_true rfl)⟩ (fun v g1 hp => ?_)
  obtain ⟨rfl, hg1⟩ := hp
  replace hg1 := hg1.symm
  subst hg1
  refine x_astorer_n hC dX2_best_5 (q := 6) rfl rfl ?_
  refine x_aloadr_n hC dX2_best_6 (q := 7) rfl rfl ?_
  refine x_ifnull_r hC dX2_best_7 (q := 10) rfl ?_
  refine x_aloadr_n hC dX2_best_10 (q := 11) rfl rfl ?_
  refine x_callV hC xv_X2_217 dX2_best_11 (q := 14) rfl rfl (m_X9_full h0 (kT σ f) gF kq hq (hw.2.2.2.1 kq hq)) (nn := (21, kq)) (kg_21 (σ := kT σ f) kq hq) rfl rfl (Nat.le_of_ble_eq_true rfl) ⟨(Nat.le_of_ble_eq_true rfl), (Nat.le_of_ble_eq_true rfl)⟩ ⟨(Nat.le_of_ble_eq_true rfl), (Nat.le_of_ble_eq_true rfl)⟩ (fun v g1 hp => ?_)
  obtain ⟨rfl, hg1⟩ := hp
  replace hg1 := hg1.symm
  subst hg1
  refine x_if_eq hC dX2_best_14 (q := 17) rfl (tgt := 33) rfl (fun h14 => ?_) (fun h14 => ?_)
  · exact absurd (nI_eq0 (Nat.lt_of_le_of_lt (kCnt_le _ _) (Nat.lt_of_le_of_lt (hw.2.2.2.1 kq hq) (by decide))) h14) hfl
  refine x_iload_n hC dX2_best_17 (q := 18) rfl rfl ?_
  refine x_i2l hC dX2_best_18 (q := 19) rfl ?_
  refine x_lconst hC dX2_best_19 (q := 20) rfl (v := 0) (by decide) ?_
  refine x_iconst hC dX2_best_20 (q := 21) rfl (v := (1)) (by decide) ?_
  refine x_aloadr_n hC dX2_best_21 (q := 22) rfl rfl ?_
  refine x_get hC xf_X2_214_6 dX2_best_22 (q := 25) rfl (n := (21, kq)) (kg_21 (σ := kT σ f) kq hq) rfl ?_
  refine x_iadd hC dX2_best_25 (q := 26) rfl ?_
  refine x_i2l hC dX2_best_26 (q := 27) rfl ?_
  refine x_callS hC xv_X2_95 dX2_best_27 (q := 30) rfl rfl (m_isIn_t h0 _ (x := w) (y := 0) (z := (kA σ 25 kq : Int) + 1) (nI64 (by omega)) rfl (by show (1 + nI (kA σ 25 kq)).toInt64.toInt = _; rw [show (1 : Int32) = nI 1 from rfl, nI_add, nI64 (by omega)]; omega) (by omega)) rfl (Nat.le_of_ble_eq_true rfl) ⟨(Nat.le_of_ble_eq_true rfl), (Nat.le_of_ble_eq_true rfl)⟩ ⟨(Nat.le_of_ble_eq_true rfl), (Nat.le_of_ble_eq_true rfl)⟩ (fun v g1 hp => ?_)
  obtain ⟨rfl, hg1⟩ := hp
  replace hg1 := hg1.symm
  subst hg1
  refine x_if_ne hC dX2_best_30 (q := 33) rfl (tgt := 35) rfl (fun h30 => ?_) (fun h30 => ?_)
  · refine x_new hC (fs := [.null, .null, .null, .int 0, .int 0, .int 0, .null]) (61, 0) xc_19 q1886 q1887 q116 dX2_best_35 (q := 38) rfl rfl hNG.1 (fun j hj => by match j, hj with | 0, _ => rfl | 1, _ => rfl | 2, _ => rfl | 3, _ => rfl | 4, _ => rfl | 5, _ => rfl | 6, _ => rfl | j + 7, h => exact absurd h (by omega)) (Nat.le_of_ble_eq_true rfl) (Nat.le_of_ble_eq_true rfl) (fun a_35 => ?_)
    refine x_geq (kmix_xuF _ _ _ _ rfl) ?_
    refine x_dup hC dX2_best_38 (q := 39) rfl rfl ?_
    refine x_aloadr_n hC dX2_best_39 (q := 40) rfl rfl ?_
    refine x_aloadr_n hC dX2_best_40 (q := 41) rfl rfl ?_
    refine x_callI hC xv_X2_402 dX2_best_41 (q := 44) rfl rfl (m_settings h0 σ gF f hF hw hNB hNG (as := a_35) kq hq) rfl (Nat.le_of_ble_eq_true rfl) ⟨(Nat.le_of_ble_eq_true rfl), (Nat.le_of_ble_eq_true rfl)⟩ ⟨(Nat.le_of_ble_eq_true rfl), (Nat.le_of_ble_eq_true rfl)⟩ (fun v g1 hp => ?_)
    obtain ⟨f1, aR, aB, rfl, hg1⟩ := hp
    replace hg1 := hg1.symm
    subst hg1
    refine x_astorer hC dX2_best_44 (q := 46) rfl rfl ?_
    refine x_aloadr hC dX2_best_46 (q := 48) rfl rfl ?_
    refine x_get hC xf_X2_405_19 dX2_best_48 (q := 51) rfl (n := (61, 0)) rfl rfl ?_
    refine x_iconst hC dX2_best_51 (q := 52) rfl (v := (-1)) (by decide) ?_
    refine x_icmp_ne hC dX2_best_52 (q := 55) rfl (tgt := 57) rfl (fun h52 => ?_) (fun h52 => ?_)
    · have hne : ¬ (kZh F σ kq 21).2.2.1 = -1 := h52
      refine x_iload_n hC dX2_best_57 (q := 58) rfl rfl ?_
      refine x_if_ne hC dX2_best_58 (q := 61) rfl (tgt := 69) rfl (fun h58 => ?_) (fun h58 => ?_)
      · have hw0 : ¬ w = 0 := fun q => h58 (by rw [q]; rfl)
        refine x_iload_n hC dX2_best_69 (q := 70) rfl rfl ?_
        refine x_iconst hC dX2_best_70 (q := 71) rfl (v := (1)) (by decide) ?_
        refine x_icmp_ne hC dX2_best_71 (q := 74) rfl (tgt := 82) rfl (fun h71 => ?_) (fun h71 => ?_)
        · have hw1 : ¬ w = 1 := fun q => h71 (by rw [q]; rfl)
          have hke : kBe F σ kq w = (kZh F σ kq 21).2.1 (w - 2) := by unfold kBe; rw [if_neg hne, if_neg hw0, if_neg hw1]
          refine x_aloadr hC dX2_best_82 (q := 84) rfl rfl ?_
          refine x_get hC xf_X2_409_19 dX2_best_84 (q := 87) rfl (n := (61, 0)) rfl rfl ?_
          refine x_iload_n hC dX2_best_87 (q := 88) rfl rfl ?_
          refine x_iconst hC dX2_best_88 (q := 89) rfl (v := (2)) (by decide) ?_
          refine x_isub hC dX2_best_89 (q := 90) rfl ?_
          refine x_iald hC dX2_best_90 (q := 91) rfl (n := (63, 0)) rfl (j := w - 2) (by rw [show (2 : Int32) = nI 2 from rfl, nI_sub (by omega)]) (by omega) (by decide) ?_
          refine x_sub (g' := kmix (kT σ f1) gF) (kmix_sub (kGF_sub hNG)) ?_
          exact x_iret hC hr dX2_best_91 (Nat.le_of_ble_eq_true rfl) (Nat.le_of_ble_eq_true rfl) ⟨f1, by rw [hke], rfl⟩
        have hw1 : w = 1 := (nI_eq (by omega) (by decide)).mp h71
        have hke : kBe F σ kq w = (kZh F σ kq 21).2.2.2 := by unfold kBe; rw [if_neg hne, if_neg hw0, if_pos hw1]
        refine x_aloadr hC dX2_best_74 (q := 76) rfl rfl ?_
        refine x_get hC xf_X2_406_19 dX2_best_76 (q := 79) rfl (n := (61, 0)) rfl rfl ?_
        refine x_goto hC dX2_best_79 (tgt := 91) rfl ?_
        refine x_sub (g' := kmix (kT σ f1) gF) (kmix_sub (kGF_sub hNG)) ?_
        exact x_iret hC hr dX2_best_91 (Nat.le_of_ble_eq_true rfl) (Nat.le_of_ble_eq_true rfl) ⟨f1, by rw [hke], rfl⟩
      have hw0 : w = 0 := nI_eq0 (by omega) h58
      have hke : kBe F σ kq w = (kZh F σ kq 21).2.2.1 := by unfold kBe; rw [if_neg hne, if_pos hw0]
      refine x_aloadr hC dX2_best_61 (q := 63) rfl rfl ?_
      refine x_get hC xf_X2_405_19 dX2_best_63 (q := 66) rfl (n := (61, 0)) rfl rfl ?_
      refine x_goto hC dX2_best_66 (tgt := 91) rfl ?_
      refine x_sub (g' := kmix (kT σ f1) gF) (kmix_sub (kGF_sub hNG)) ?_
      exact x_iret hC hr dX2_best_91 (Nat.le_of_ble_eq_true rfl) (Nat.le_of_ble_eq_true rfl) ⟨f1, by rw [hke], rfl⟩
    have hne : (kZh F σ kq 21).2.2.1 = -1 := h52
    refine x_iconst hC dX2_best_55 (q := 56) rfl (v := (-1)) (by decide) ?_
    refine x_sub (g' := kmix (kT σ f1) gF) (kmix_sub (kGF_sub hNG)) ?_
    exact x_iret hC hr dX2_best_56 (Nat.le_of_ble_eq_true rfl) (Nat.le_of_ble_eq_true rfl) ⟨f1, by unfold kBe; rw [if_pos hne], rfl⟩
  · exact absurd h30 (by decide)

set_option maxHeartbeats 4000000 in
set_option maxRecDepth 100000 in
theorem m_best_0 {l : Launch} {s0 : State} {D : va_G} (h0 : x0 l s0 D) (σ : KS) (gF : xG) (f : aEnv) (hw : KW σ) (kq : Nat) (hq : kq < kA σ 62 0) (hfl : kFull σ kq = 0) (x : Int32) : xMet l s0 D yX2_best cX2_best 5 (some .int) (xr 48 402 2476 2050) [.ref (kA σ 0 0), .int (nI kq), .int x] (kmix (kT σ f) gF) (fun r g1 => r = some (.int (-1)) ∧ g1 = kmix (kT σ f) gF) := by
  refine xMet.of h0 (by decide +kernel) rfl ?_
  intro p e s m args below meth c hC hr hnm
  refine x_aloadr_n hC dX2_best_0 (q := 1) rfl rfl ?_
  refine x_iload_n hC dX2_best_1 (q := 2) rfl rfl ?_
  refine x_callV hC xv_X2_317 dX2_best_2 (q := 5) rfl rfl (m_X2_kilnOf h0 (kT σ f) gF hw kq hq) (nn := (0, 0)) rfl rfl rfl (Nat.le_of_ble_eq_true rfl) ⟨(Nat.le_of_ble_eq_true rfl), (Nat.le_of_ble_eq_true rfl)⟩ ⟨(Nat.le_of_ble_eq_true rfl), (Nat.le_of_ble_eq_true rfl)⟩ (fun v g1 hp => ?_)
  obtain ⟨rfl, hg1⟩ := hp
  replace hg1 := hg1.symm
  subst hg1
  refine x_astorer_n hC dX2_best_5 (q := 6) rfl rfl ?_
  refine x_aloadr_n hC dX2_best_6 (q := 7) rfl rfl ?_
  refine x_ifnull_r hC dX2_best_7 (q := 10) rfl ?_
  refine x_aloadr_n hC dX2_best_10 (q := 11) rfl rfl ?_
  refine x_callV hC xv_X2_217 dX2_best_11 (q := 14) rfl rfl (m_X9_full h0 (kT σ f) gF kq hq (hw.2.2.2.1 kq hq)) (nn := (21, kq)) (kg_21 (σ := kT σ f) kq hq) rfl rfl (Nat.le_of_ble_eq_true rfl) ⟨(Nat.le_of_ble_eq_true rfl), (Nat.le_of_ble_eq_true rfl)⟩ ⟨(Nat.le_of_ble_eq_true rfl), (Nat.le_of_ble_eq_true rfl)⟩ (fun v g1 hp => ?_)
  obtain ⟨rfl, hg1⟩ := hp
  replace hg1 := hg1.symm
  subst hg1
  refine x_if_eq hC dX2_best_14 (q := 17) rfl (tgt := 33) rfl (fun h14 => ?_) (fun h14 => ?_)
  · refine x_iconst hC dX2_best_33 (q := 34) rfl (v := (-1)) (by decide) ?_
    exact x_iret hC hr dX2_best_34 (Nat.le_of_ble_eq_true rfl) (Nat.le_of_ble_eq_true rfl) ⟨rfl, rfl⟩
  · exact absurd (by rw [show kFull (kT σ f) kq = 0 from hfl]; rfl) h14

set_option maxHeartbeats 4000000 in
set_option maxRecDepth 100000 in
theorem m_best_out {l : Launch} {s0 : State} {D : va_G} (h0 : x0 l s0 D) (σ : KS) (gF : xG) (f : aEnv) (hw : KW σ) (kq : Nat) (hq : kq < kA σ 62 0) (hfl : ¬ kFull σ kq = 0) (w : Nat) (hwr : 1 + kA σ 25 kq < w) (hw2 : w < 2147483648) : xMet l s0 D yX2_best cX2_best 5 (some .int) (xr 48 402 2476 2050) [.ref (kA σ 0 0), .int (nI kq), .int (nI w)] (kmix (kT σ f) gF) (fun r g1 => r = some (.int (-1)) ∧ g1 = kmix (kT σ f) gF) := by
  have h6 := hw.2.2.2.1 kq hq
  refine xMet.of h0 (by decide +kernel) rfl ?_
  intro p e s m args below meth c hC hr hnm
  refine x_aloadr_n hC dX2_best_0 (q := 1) rfl rfl ?_
  refine x_iload_n hC dX2_best_1 (q := 2) rfl rfl ?_
  refine x_callV hC xv_X2_317 dX2_best_2 (q := 5) rfl rfl (m_X2_kilnOf h0 (kT σ f) gF hw kq hq) (nn := (0, 0)) rfl rfl rfl (Nat.le_of_ble_eq_true rfl) ⟨(Nat.le_of_ble_eq_true rfl), (Nat.le_of_ble_eq_true rfl)⟩ ⟨(Nat.le_of_ble_eq_true rfl), (Nat.le_of_ble_eq_true rfl)⟩ (fun v g1 hp => ?_)
  obtain ⟨rfl, hg1⟩ := hp
  replace hg1 := hg1.symm
  subst hg1
  refine x_astorer_n hC dX2_best_5 (q := 6) rfl rfl ?_
  refine x_aloadr_n hC dX2_best_6 (q := 7) rfl rfl ?_
  refine x_ifnull_r hC dX2_best_7 (q := 10) rfl ?_
  refine x_aloadr_n hC dX2_best_10 (q := 11) rfl rfl ?_
  refine x_callV hC xv_X2_217 dX2_best_11 (q := 14) rfl rfl (m_X9_full h0 (kT σ f) gF kq hq (hw.2.2.2.1 kq hq)) (nn := (21, kq)) (kg_21 (σ := kT σ f) kq hq) rfl rfl (Nat.le_of_ble_eq_true rfl) ⟨(Nat.le_of_ble_eq_true rfl), (Nat.le_of_ble_eq_true rfl)⟩ ⟨(Nat.le_of_ble_eq_true rfl), (Nat.le_of_ble_eq_true rfl)⟩ (fun v g1 hp => ?_)
  obtain ⟨rfl, hg1⟩ := hp
  replace hg1 := hg1.symm
  subst hg1
  refine x_if_eq hC dX2_best_14 (q := 17) rfl (tgt := 33) rfl (fun h14 => ?_) (fun h14 => ?_)
  · exact absurd (nI_eq0 (Nat.lt_of_le_of_lt (kCnt_le _ _) (Nat.lt_of_le_of_lt (hw.2.2.2.1 kq hq) (by decide))) h14) hfl
  refine x_iload_n hC dX2_best_17 (q := 18) rfl rfl ?_
  refine x_i2l hC dX2_best_18 (q := 19) rfl ?_
  refine x_lconst hC dX2_best_19 (q := 20) rfl (v := 0) (by decide) ?_
  refine x_iconst hC dX2_best_20 (q := 21) rfl (v := (1)) (by decide) ?_
  refine x_aloadr_n hC dX2_best_21 (q := 22) rfl rfl ?_
  refine x_get hC xf_X2_214_6 dX2_best_22 (q := 25) rfl (n := (21, kq)) (kg_21 (σ := kT σ f) kq hq) rfl ?_
  refine x_iadd hC dX2_best_25 (q := 26) rfl ?_
  refine x_i2l hC dX2_best_26 (q := 27) rfl ?_
  refine x_callS hC xv_X2_95 dX2_best_27 (q := 30) rfl rfl (m_isIn_f h0 _ (x := w) (y := 0) (z := (kA σ 25 kq : Int) + 1) (nI64 (by omega)) rfl (by show (1 + nI (kA σ 25 kq)).toInt64.toInt = _; rw [show (1 : Int32) = nI 1 from rfl, nI_add, nI64 (by omega)]; omega) (by omega)) rfl (Nat.le_of_ble_eq_true rfl) ⟨(Nat.le_of_ble_eq_true rfl), (Nat.le_of_ble_eq_true rfl)⟩ ⟨(Nat.le_of_ble_eq_true rfl), (Nat.le_of_ble_eq_true rfl)⟩ (fun v g1 hp => ?_)
  obtain ⟨rfl, hg1⟩ := hp
  replace hg1 := hg1.symm
  subst hg1
  refine x_if_ne hC dX2_best_30 (q := 33) rfl (tgt := 35) rfl (fun h30 => ?_) (fun h30 => ?_)
  · exact absurd rfl h30
  refine x_iconst hC dX2_best_33 (q := 34) rfl (v := (-1)) (by decide) ?_
  exact x_iret hC hr dX2_best_34 (Nat.le_of_ble_eq_true rfl) (Nat.le_of_ble_eq_true rfl) ⟨rfl, rfl⟩
