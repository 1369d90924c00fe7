/-! image, octet -/
def kBy6 (σ : KS) (c : Nat) : Nat → Nat
  | 0 => if iI (kI σ 34 c) = -1 then 0 else 1
  | 1 => match kO σ 0 c 0 with
    | none => 255
    | some q => q
  | 2 => k255 (kI σ 33 c)
  | 3 => k255 (kI σ 34 c)
  | 4 => if iI (kI σ 36 c) = 0 then 0 else 1
  | _ => (kI σ 35 c).toNat
/-- the bytes of an image ahead of its check -/
def kByt (σ : KS) (j : Nat) : Nat := if j < 4 + 6 * kA σ 61 0 then (if j < 2 then (if j = 0 then (kI σ 3 0).toNat / 256 else (kI σ 3 0).toNat % 256) else if j < 4 then (if j = 2 then (kI σ 7 0).toNat / 256 else (kI σ 7 0).toNat % 256) else kBy6 σ ((j - 4) / 6) ((j - 4) % 6)) else k255 (kI σ 41 (j - 4 - 6 * kA σ 61 0))
def kIml (σ : KS) : Nat := 4 + 6 * kA σ 61 0 + kA σ 62 0
/-- all its bytes -/
def kIb (σ : KS) (j : Nat) : Nat := if j < kIml σ then kByt σ j else kLst (kByt σ) (kIml σ)
def kFil (f : Nat → Nat) (g : Nat → Int) (m : Nat) : Nat → Int := fun j => if j < m then (f j : Int) else g j
theorem kFil_s (f : Nat → Nat) (g : Nat → Int) (m : Nat) {z : Int} (h : z = (f m : Int)) : iUp (kFil f g m) m z = kFil f g (m + 1) := by
  funext j
  unfold iUp kFil
  by_cases e : j = m
  · rw [if_pos e, if_pos (by omega), h, e]
  · rw [if_neg e]
    by_cases q : j < m
    · rw [if_pos q, if_pos (by omega)]
    · rw [if_neg q, if_neg (by omega)]
theorem kFil_0 (f : Nat → Nat) (g : Nat → Int) : kFil f g 0 = g := by
  funext j
  exact if_neg (Nat.not_lt_zero j)
theorem kByt_c (σ : KS) {c : Nat} (hc : c < kA σ 61 0) {r : Nat} (hr : r < 6) : kByt σ (4 + 6 * c + r) = kBy6 σ c r := by
  unfold kByt
  rw [if_pos (by omega), if_neg (by omega), if_neg (by omega), show (4 + 6 * c + r - 4) / 6 = c by omega, show (4 + 6 * c + r - 4) % 6 = r by omega]
theorem kByt_q (σ : KS) (q : Nat) : kByt σ (4 + 6 * kA σ 61 0 + q) = k255 (kI σ 41 q) := by
  unfold kByt
  rw [if_neg (by omega), show 4 + 6 * kA σ 61 0 + q - 4 - 6 * kA σ 61 0 = q by omega]
theorem kBy6_lt {σ : KS} (hw : KW σ) (hp : KPl σ) (hn : KNb σ) {c : Nat} (hc : c < kA σ 61 0) (r : Nat) : kBy6 σ c r < 65536 := by
  obtain ⟨n1, n2, n3⟩ := hn.1 c hc
  match r with
  | 0 => show (if iI (kI σ 34 c) = -1 then 0 else 1) < 65536; split <;> omega
  | 1 =>
    show (match kO σ 0 c 0 with | none => 255 | some q => q) < 65536
    cases hk : kO σ 0 c 0 with
    | none => show 255 < 65536; omega
    | some q => have := (hp.2.1 c q hc hk).1; have := hw.2.1; show q < 65536; omega
  | 2 =>
    refine k255_lt ?_
    cases hk : kO σ 0 c 0 with
    | none => rw [hp.2.2 c hc hk]; omega
    | some q => obtain ⟨h1, pl, h2, h3⟩ := hp.2.1 c q hc hk; have := hw.2.2.2.1 q h1; omega
  | 3 => exact k255_lt (by omega)
  | 4 => show (if iI (kI σ 36 c) = 0 then 0 else 1) < 65536; split <;> omega
  | k + 5 => show (kI σ 35 c).toNat < 65536; omega
theorem kByt_lt {σ : KS} (hw : KW σ) (hp : KPl σ) (hn : KNb σ) (h3 : 0 ≤ kI σ 3 0 ∧ kI σ 3 0 ≤ 999) (h7 : 0 ≤ kI σ 7 0 ∧ kI σ 7 0 ≤ 9999) {j : Nat} (hj : j < kIml σ) : kByt σ j < 65536 := by
  unfold kIml at hj
  unfold kByt
  split
  · split
    · split <;> omega
    · split
      · split <;> omega
      · exact kBy6_lt hw hp hn (by omega) _
  · exact k255_lt (by have := hn.2 (j - 4 - 6 * kA σ 61 0) (by omega); omega)

theorem kIb_fil (σ : KS) (g : Nat → Int) : iUp (kFil (kByt σ) g (kIml σ)) (kIml σ) ((kLst (kByt σ) (kIml σ) : Nat) : Int) = kFil (kIb σ) g (kIml σ + 1) := by
  funext j
  unfold iUp kFil kIb
  by_cases e : j = kIml σ
  · rw [if_pos e, if_pos (by omega), if_neg (by omega)]
  · rw [if_neg e]
    by_cases q : j < kIml σ
    · rw [if_pos q, if_pos (by omega), if_pos q]
    · rw [if_neg q, if_neg (by omega)]

set_option maxHeartbeats 4000000 in
set_option maxRecDepth 100000 in
theorem m_X2_image {l : Launch} {s0 : State} {D : va_G} (h0 : x0 l s0 D) (σ : KS) (gF : xG) (hw : KW σ) (hp : KPl σ) (hn : KNb σ) (h3 : 0 ≤ kI σ 3 0 ∧ kI σ 3 0 ≤ 999) (h7 : 0 ≤ kI σ 7 0 ∧ kI σ 7 0 ≤ 9999) : xMet l s0 D yX2_image cX2_image 3 (some .int) (xr 4 0 0 106) [.ref (kA σ 0 0)] (kmix σ gF) (fun r g1 => r = some (.int (nI (kIml σ + 1))) ∧ g1 = kmix (kIm σ (kFil (kIb σ) (kV σ 4 0) (kIml σ + 1)) (kIml σ + 1)) gF) := by
  have h61 := hw.1
  have h62 := hw.2.1
  refine xMet.of h0 (by decide +kernel) rfl ?_
  intro p e s m args below meth c hC hr hnm
  refine x_aloadr_n hC dX2_image_0 (q := 1) rfl rfl ?_
  refine x_iconst hC dX2_image_1 (q := 2) rfl (v := (0)) (by decide) ?_
  refine x_put hC (n := (0, 0)) xf_X2_450_1 xd_1 rfl dX2_image_2 (q := 5) rfl rfl rfl rfl rfl ?_
  refine x_geq (g' := kmix (kIm σ (kFil (kByt σ) (kV σ 4 0) (0)) (0)) gF) ((kf_imaged (z := 0) rfl).trans (by rw [kFil_0]; refine congrArg (fun q => kmix q gF) (KS_ext rfl rfl rfl ?_ rfl); funext f k j; show kV σ f k j = (if f = 4 ∧ k = 0 then kV σ 4 0 j else kV σ f k j); split; (rename_i h; rw [h.1, h.2]); rfl)) ?_
  refine x_aloadr_n hC dX2_image_5 (q := 6) rfl rfl ?_
  refine x_aloadr_n hC dX2_image_6 (q := 7) rfl rfl ?_
  refine x_get hC xf_X2_119_1 dX2_image_7 (q := 10) rfl (n := (0, 0)) rfl rfl ?_
  refine x_steq (st1 := [.int (nI (kI σ 3 0).toNat), .ref (kA σ 0 0)]) (by rw [show nI (kI σ 3 0).toNat = iI (kI σ 3 0) by rw [← iI_nat, Int.toNat_of_nonneg h3.1]]; rfl) ?_
  refine x_callV hC xv_X2_456 dX2_image_10 (q := 13) rfl rfl (m_X2_writesTwo h0 σ gF (kFil (kByt σ) (kV σ 4 0) 0) 0 (by omega) (kI σ 3 0).toNat (by omega)) (nn := (0, 0)) rfl rfl rfl (Nat.le_of_ble_eq_true rfl) ⟨(Nat.le_of_ble_eq_true rfl), (Nat.le_of_ble_eq_true rfl)⟩ ⟨(Nat.le_of_ble_eq_true rfl), (Nat.le_of_ble_eq_true rfl)⟩ (fun v g1 hp => ?_)
  obtain ⟨rfl, hg1⟩ := hp
  replace hg1 := hg1.symm
  subst hg1
  refine x_geq (g' := kmix (kIm σ (kFil (kByt σ) (kV σ 4 0) (2)) (2)) gF) (by rw [kFil_s (kByt σ) (kV σ 4 0) 0 (by unfold kByt; rw [if_pos (by omega), if_pos (by decide), if_pos rfl]), kFil_s (kByt σ) (kV σ 4 0) (0 + 1) (by unfold kByt; rw [if_pos (by omega), if_pos (by decide), if_neg (by decide)])]) ?_
  refine x_aloadr_n hC dX2_image_13 (q := 14) rfl rfl ?_
  refine x_aloadr_n hC dX2_image_14 (q := 15) rfl rfl ?_
  refine x_get hC xf_X2_20_1 dX2_image_15 (q := 18) rfl (n := (0, 0)) rfl rfl ?_
  refine x_get hC xf_X2_223_2 dX2_image_18 (q := 21) rfl (n := (3, 0)) rfl rfl ?_
  refine x_steq (st1 := [.int (nI (kI σ 7 0).toNat), .ref (kA σ 0 0)]) (by rw [show nI (kI σ 7 0).toNat = iI (kI σ 7 0) by rw [← iI_nat, Int.toNat_of_nonneg h7.1]]; rfl) ?_
  refine x_callV hC xv_X2_456 dX2_image_21 (q := 24) rfl rfl (m_X2_writesTwo h0 σ gF (kFil (kByt σ) (kV σ 4 0) 2) 2 (by omega) (kI σ 7 0).toNat (by omega)) (nn := (0, 0)) rfl rfl rfl (Nat.le_of_ble_eq_true rfl) ⟨(Nat.le_of_ble_eq_true rfl), (Nat.le_of_ble_eq_true rfl)⟩ ⟨(Nat.le_of_ble_eq_true rfl), (Nat.le_of_ble_eq_true rfl)⟩ (fun v g1 hp => ?_)
  obtain ⟨rfl, hg1⟩ := hp
  replace hg1 := hg1.symm
  subst hg1
  refine x_geq (g' := kmix (kIm σ (kFil (kByt σ) (kV σ 4 0) (4 + 6 * 0)) (4 + 6 * 0)) gF) (by rw [kFil_s (kByt σ) (kV σ 4 0) 2 (by unfold kByt; rw [if_pos (by omega), if_neg (by decide), if_pos (by decide), if_pos rfl]), kFil_s (kByt σ) (kV σ 4 0) (2 + 1) (by unfold kByt; rw [if_pos (by omega), if_neg (by decide), if_pos (by decide), if_neg (by decide)])]) ?_
  refine x_iconst hC dX2_image_24 (q := 25) rfl (v := (0)) (by decide) ?_
  refine x_istore_n hC dX2_image_25 (q := 26) rfl rfl ?_
  refine x_loop (S := (fun i : Nat => ((0 : Nat), (0 : Nat), kmix (kIm σ (kFil (kByt σ) (kV σ 4 0) (4 + 6 * i)) (4 + 6 * i)) gF, ([some (.ref (kA σ 0 0)), some (.int (nI i)), none] : xL), ([] : List Value)))) (Inv := fun i => i ≤ kA σ 61 0) (μ := fun i => kA σ 61 0 - i) ?_ 0 (Nat.zero_le _)
  intro c1 hi ih
  dsimp only at hi ih ⊢
  have h61 := hw.1
  have h62 := hw.2.1
  refine x_iload_n hC dX2_image_26 (q := 27) rfl rfl ?_
  refine x_aloadr_n hC dX2_image_27 (q := 28) rfl rfl ?_
  refine x_callV hC xv_X2_351 dX2_image_28 (q := 31) rfl rfl (m_X2_children h0 (kIm σ (kFil (kByt σ) (kV σ 4 0) (4 + 6 * c1)) (4 + 6 * c1)) gF) (nn := (0, 0)) rfl rfl rfl (Nat.le_of_ble_eq_true rfl) ⟨(Nat.le_of_ble_eq_true rfl), (Nat.le_of_ble_eq_true rfl)⟩ ⟨(Nat.le_of_ble_eq_true rfl), (Nat.le_of_ble_eq_true rfl)⟩ (fun v g1 hp => ?_)
  obtain ⟨rfl, hg1⟩ := hp
  replace hg1 := hg1.symm
  subst hg1
  refine x_icmp_ge hC dX2_image_31 (q := 34) rfl (tgt := 119) rfl (fun h31 => ?_) (fun h31 => ?_)
  · have hc3 : c1 = kA σ 61 0 := by
      have h2 : nI (kA σ 61 0) ≤ nI c1 := h31
      have := (nI_leI (by omega) (by omega)).mp h2
      omega
    clear ih
    rw [hc3]
    refine x_iconst hC dX2_image_119 (q := 120) rfl (v := (0)) (by decide) ?_
    refine x_istore_n hC dX2_image_120 (q := 121) rfl rfl ?_
    refine x_geq (g' := kmix (kIm σ (kFil (kByt σ) (kV σ 4 0) (4 + 6 * kA σ 61 0 + 0)) (4 + 6 * kA σ 61 0 + 0)) gF) rfl ?_
    refine x_loop (S := (fun i : Nat => ((0 : Nat), (0 : Nat), kmix (kIm σ (kFil (kByt σ) (kV σ 4 0) (4 + 6 * kA σ 61 0 + i)) (4 + 6 * kA σ 61 0 + i)) gF, ([some (.ref (kA σ 0 0)), some (.int (nI i)), none] : xL), ([] : List Value)))) (Inv := fun i => i ≤ kA σ 62 0) (μ := fun i => kA σ 62 0 - i) ?_ 0 (Nat.zero_le _)
    intro q1 hi2 ih2
    dsimp only at hi2 ih2 ⊢
    refine x_iload_n hC dX2_image_121 (q := 122) rfl rfl ?_
    refine x_aloadr_n hC dX2_image_122 (q := 123) rfl rfl ?_
    refine x_callV hC xv_X2_232 dX2_image_123 (q := 126) rfl rfl (m_X2_kilns h0 (kIm σ (kFil (kByt σ) (kV σ 4 0) (4 + 6 * kA σ 61 0 + q1)) (4 + 6 * kA σ 61 0 + q1)) gF) (nn := (0, 0)) rfl rfl rfl (Nat.le_of_ble_eq_true rfl) ⟨(Nat.le_of_ble_eq_true rfl), (Nat.le_of_ble_eq_true rfl)⟩ ⟨(Nat.le_of_ble_eq_true rfl), (Nat.le_of_ble_eq_true rfl)⟩ (fun v g1 hp => ?_)
    obtain ⟨rfl, hg1⟩ := hp
    replace hg1 := hg1.symm
    subst hg1
    refine x_icmp_ge hC dX2_image_126 (q := 129) rfl (tgt := 156) rfl (fun h126 => ?_) (fun h126 => ?_)
    · have hq3 : q1 = kA σ 62 0 := by
        have h2 : nI (kA σ 62 0) ≤ nI q1 := h126
        have := (nI_leI (by omega) (by omega)).mp h2
        omega
      clear ih2
      rw [hq3]
      refine x_aloadr_n hC dX2_image_156 (q := 157) rfl rfl ?_
      refine x_aloadr_n hC dX2_image_157 (q := 158) rfl rfl ?_
      refine x_get hC xf_X2_52_1 dX2_image_158 (q := 161) rfl (n := (0, 0)) rfl rfl ?_
      refine x_aloadr_n hC dX2_image_161 (q := 162) rfl rfl ?_
      refine x_get hC xf_X2_450_1 dX2_image_162 (q := 165) rfl (n := (0, 0)) rfl rfl ?_
      refine x_steq (st1 := [.int (nI (kIml σ)), .ref (kA σ 18 0), .ref (kA σ 0 0)]) (by rw [← iI_nat]; rfl) ?_
      refine x_callS hC xv_X2_462 dX2_image_165 (q := 168) rfl rfl (m_X2_last h0 (kmix (kIm σ (kFil (kByt σ) (kV σ 4 0) (4 + 6 * kA σ 61 0 + kA σ 62 0)) (4 + 6 * kA σ 61 0 + kA σ 62 0)) gF) (nn := (18, 0)) (a := kA σ 18 0) (N := 56) (v := kFil (kByt σ) (kV σ 4 0) (kIml σ)) rfl (kIml σ) (by unfold kIml; omega) (by decide) (kByt σ) (fun j hj => ⟨if_pos hj, kByt_lt hw hp hn h3 h7 hj⟩)) rfl (Nat.le_of_ble_eq_true rfl) ⟨(Nat.le_of_ble_eq_true rfl), (Nat.le_of_ble_eq_true rfl)⟩ ⟨(Nat.le_of_ble_eq_true rfl), (Nat.le_of_ble_eq_true rfl)⟩ (fun v g1 hp => ?_)
      obtain ⟨rfl, hg1⟩ := hp
      replace hg1 := hg1.symm
      subst hg1
      refine x_steq (st1 := [.int (iI ((kLst (kByt σ) (kIml σ) : Nat) : Int)), .ref (kA σ 0 0)]) (by rw [iI_nat]; rfl) ?_
      have hll := kLst_lt (kByt σ) (kIml σ)
      refine x_callV hC xv_X2_453 dX2_image_168 (q := 171) rfl rfl (m_X2_writes h0 σ gF (kFil (kByt σ) (kV σ 4 0) (kIml σ)) (kIml σ) (by unfold kIml; omega) ((kLst (kByt σ) (kIml σ) : Nat) : Int) ⟨by omega, by omega⟩) (nn := (0, 0)) rfl rfl rfl (Nat.le_of_ble_eq_true rfl) ⟨(Nat.le_of_ble_eq_true rfl), (Nat.le_of_ble_eq_true rfl)⟩ ⟨(Nat.le_of_ble_eq_true rfl), (Nat.le_of_ble_eq_true rfl)⟩ (fun v g1 hp => ?_)
      obtain ⟨rfl, hg1⟩ := hp
      replace hg1 := hg1.symm
      subst hg1
      refine x_geq (g' := kmix (kIm σ (kFil (kIb σ) (kV σ 4 0) (kIml σ + 1)) (kIml σ + 1)) gF) (by rw [show k255 ((kLst (kByt σ) (kIml σ) : Nat) : Int) = kLst (kByt σ) (kIml σ) from (if_neg (by omega)).trans (Int.toNat_natCast _), kIb_fil]) ?_
      refine x_aloadr_n hC dX2_image_171 (q := 172) rfl rfl ?_
      refine x_get hC xf_X2_450_1 dX2_image_172 (q := 175) rfl (n := (0, 0)) rfl rfl ?_
      exact x_iret hC hr dX2_image_175 (Nat.le_of_ble_eq_true rfl) (Nat.le_of_ble_eq_true rfl) ⟨by rw [← iI_nat]; rfl, rfl⟩
    have hq1 : q1 < kA σ 62 0 := Nat.lt_of_not_le (fun q => h126 (show nI (kA σ 62 0) ≤ nI q1 from nI_le q (by omega)))
    obtain ⟨n4, n5⟩ := hn.2 q1 hq1
    refine x_aloadr_n hC dX2_image_129 (q := 130) rfl rfl ?_
    refine x_aloadr_n hC dX2_image_130 (q := 131) rfl rfl ?_
    refine x_get hC xf_X2_20_1 dX2_image_131 (q := 134) rfl (n := (0, 0)) rfl rfl ?_
    refine x_get hC xf_X2_152_2 dX2_image_134 (q := 137) rfl (n := (3, 0)) rfl rfl ?_
    refine x_iload_n hC dX2_image_137 (q := 138) rfl rfl ?_
    refine x_callV hC xv_X2_139 dX2_image_138 (q := 141) rfl rfl (m_kilnAt h0 (kIm σ (kFil (kByt σ) (kV σ 4 0) (4 + 6 * kA σ 61 0 + q1)) (4 + 6 * kA σ 61 0 + q1)) gF hw.c62 q1 hq1) (nn := (6, 0)) rfl rfl rfl (Nat.le_of_ble_eq_true rfl) ⟨(Nat.le_of_ble_eq_true rfl), (Nat.le_of_ble_eq_true rfl)⟩ ⟨(Nat.le_of_ble_eq_true rfl), (Nat.le_of_ble_eq_true rfl)⟩ (fun v g1 hp => ?_)
    obtain ⟨rfl, hg1⟩ := hp
    replace hg1 := hg1.symm
    subst hg1
    refine x_castS hC q1361 rfl dX2_image_141 (q := 144) rfl (n := (21, q1)) (kg_21 (σ := (kIm σ (kFil (kByt σ) (kV σ 4 0) (4 + 6 * kA σ 61 0 + q1)) (4 + 6 * kA σ 61 0 + q1))) q1 hq1) ?_
    refine x_get hC xf_X2_211_6 dX2_image_144 (q := 147) rfl (n := (21, q1)) (kg_21 (σ := (kIm σ (kFil (kByt σ) (kV σ 4 0) (4 + 6 * kA σ 61 0 + q1)) (4 + 6 * kA σ 61 0 + q1))) q1 hq1) rfl ?_
    refine x_callV hC xv_X2_453 dX2_image_147 (q := 150) rfl rfl (m_X2_writes h0 σ gF (kFil (kByt σ) (kV σ 4 0) (4 + 6 * kA σ 61 0 + q1)) (4 + 6 * kA σ 61 0 + q1) (by omega) (kI σ 41 q1) ⟨by omega, by omega⟩) (nn := (0, 0)) rfl rfl rfl (Nat.le_of_ble_eq_true rfl) ⟨(Nat.le_of_ble_eq_true rfl), (Nat.le_of_ble_eq_true rfl)⟩ ⟨(Nat.le_of_ble_eq_true rfl), (Nat.le_of_ble_eq_true rfl)⟩ (fun v g1 hp => ?_)
    obtain ⟨rfl, hg1⟩ := hp
    replace hg1 := hg1.symm
    subst hg1
    refine x_geq (g' := kmix (kIm σ (kFil (kByt σ) (kV σ 4 0) (4 + 6 * kA σ 61 0 + (q1 + 1))) (4 + 6 * kA σ 61 0 + (q1 + 1))) gF) (by rw [kFil_s _ _ _ (by rw [kByt_q])]; rfl) ?_
    refine x_iinc hC dX2_image_150 (q := 153) rfl rfl (v := nI (q1 + 1)) (nI_1 q1) ?_
    refine x_goto hC dX2_image_153 (tgt := 121) rfl ?_
    exact ih2 (q1 + 1) (by omega) (by omega)
  have hc1 : c1 < kA σ 61 0 := Nat.lt_of_not_le (fun q => h31 (show nI (kA σ 61 0) ≤ nI c1 from nI_le q (by omega)))
  obtain ⟨n1, n2, n3⟩ := hn.1 c1 hc1
  refine x_aloadr_n hC dX2_image_34 (q := 35) rfl rfl ?_
  refine x_get hC xf_X2_20_1 dX2_image_35 (q := 38) rfl (n := (0, 0)) rfl rfl ?_
  refine x_get hC xf_X2_143_2 dX2_image_38 (q := 41) rfl (n := (3, 0)) rfl rfl ?_
  refine x_iload_n hC dX2_image_41 (q := 42) rfl rfl ?_
  refine x_callV hC xv_X2_139 dX2_image_42 (q := 45) rfl rfl (m_childAt h0 (kIm σ (kFil (kByt σ) (kV σ 4 0) (4 + 6 * c1)) (4 + 6 * c1)) gF hw.c61 c1 hc1) (nn := (4, 0)) rfl rfl rfl (Nat.le_of_ble_eq_true rfl) ⟨(Nat.le_of_ble_eq_true rfl), (Nat.le_of_ble_eq_true rfl)⟩ ⟨(Nat.le_of_ble_eq_true rfl), (Nat.le_of_ble_eq_true rfl)⟩ (fun v g1 hp => ?_)
  obtain ⟨rfl, hg1⟩ := hp
  replace hg1 := hg1.symm
  subst hg1
  refine x_castS hC q1344 rfl dX2_image_45 (q := 48) rfl (n := (20, c1)) (kg_20 (σ := (kIm σ (kFil (kByt σ) (kV σ 4 0) (4 + 6 * c1)) (4 + 6 * c1))) c1 hc1) ?_
  refine x_astorer_n hC dX2_image_48 (q := 49) rfl rfl ?_
  refine x_aloadr_n hC dX2_image_49 (q := 50) rfl rfl ?_
  refine x_aloadr_n hC dX2_image_50 (q := 51) rfl rfl ?_
  refine x_callV hC xv_X2_321 dX2_image_51 (q := 54) rfl rfl (m_X8_isFired h0 (kIm σ (kFil (kByt σ) (kV σ 4 0) (4 + 6 * c1)) (4 + 6 * c1)) gF c1 hc1) (nn := (20, c1)) (kg_20 (σ := (kIm σ (kFil (kByt σ) (kV σ 4 0) (4 + 6 * c1)) (4 + 6 * c1))) c1 hc1) rfl rfl (Nat.le_of_ble_eq_true rfl) ⟨(Nat.le_of_ble_eq_true rfl), (Nat.le_of_ble_eq_true rfl)⟩ ⟨(Nat.le_of_ble_eq_true rfl), (Nat.le_of_ble_eq_true rfl)⟩ (fun v g1 hp => ?_)
  obtain ⟨rfl, hg1⟩ := hp
  replace hg1 := hg1.symm
  subst hg1
  refine x_if_eq hC dX2_image_54 (q := 57) rfl (tgt := 61) rfl (fun h54 => ?_) (fun h54 => ?_)
  · have hb0 : kBy6 σ c1 0 = 0 := if_pos (Decidable.byContradiction (fun q => absurd (show (if iI (kI σ 34 c1) = -1 then (0 : Int32) else 1) = 0 from h54) (by rw [if_neg q]; decide)))
    refine x_iconst hC dX2_image_61 (q := 62) rfl (v := (0)) (by decide) ?_
    refine x_geq (g' := kmix (kIm σ (kFil (kByt σ) (kV σ 4 0) (4 + 6 * c1 + 0)) (4 + 6 * c1 + 0)) gF) rfl ?_
    refine x_steq (st1 := [.int (iI ((kBy6 σ c1 0 : Nat) : Int)), .ref (kA σ 0 0)]) (by rw [hb0]; rfl) ?_
    refine x_callV hC xv_X2_453 dX2_image_62 (q := 65) rfl rfl (m_X2_writes h0 σ gF (kFil (kByt σ) (kV σ 4 0) (4 + 6 * c1 + 0)) (4 + 6 * c1 + 0) (by omega) ((kBy6 σ c1 0 : Nat) : Int) (by rw [hb0]; omega)) (nn := (0, 0)) rfl rfl rfl (Nat.le_of_ble_eq_true rfl) ⟨(Nat.le_of_ble_eq_true rfl), (Nat.le_of_ble_eq_true rfl)⟩ ⟨(Nat.le_of_ble_eq_true rfl), (Nat.le_of_ble_eq_true rfl)⟩ (fun v g1 hp => ?_)
    obtain ⟨rfl, hg1⟩ := hp
    replace hg1 := hg1.symm
    subst hg1
    refine x_geq (g' := kmix (kIm σ (kFil (kByt σ) (kV σ 4 0) (4 + 6 * c1 + 1)) (4 + 6 * c1 + 1)) gF) (by rw [kFil_s _ _ _ (by rw [kByt_c σ hc1 (r := 0) (by decide)]; rw [hb0]; rfl)]) ?_
    refine x_aloadr_n hC dX2_image_65 (q := 66) rfl rfl ?_
    refine x_aloadr_n hC dX2_image_66 (q := 67) rfl rfl ?_
    refine x_callV hC xv_X2_368 dX2_image_67 (q := 70) rfl rfl (m_X8_kiln h0 (kIm σ (kFil (kByt σ) (kV σ 4 0) (4 + 6 * c1 + 1)) (4 + 6 * c1 + 1)) gF hw c1 hc1) (nn := (20, c1)) (kg_20 (σ := (kIm σ (kFil (kByt σ) (kV σ 4 0) (4 + 6 * c1 + 1)) (4 + 6 * c1 + 1))) c1 hc1) rfl rfl (Nat.le_of_ble_eq_true rfl) ⟨(Nat.le_of_ble_eq_true rfl), (Nat.le_of_ble_eq_true rfl)⟩ ⟨(Nat.le_of_ble_eq_true rfl), (Nat.le_of_ble_eq_true rfl)⟩ (fun v g1 hp => ?_)
    obtain ⟨rfl, hg1⟩ := hp
    replace hg1 := hg1.symm
    subst hg1
    obtain ⟨yk, hyk, hyb, hyd⟩ : ∃ yk : Int, kKil σ c1 = iI yk ∧ (-1 ≤ yk ∧ yk < 65536) ∧ k255 yk = kBy6 σ c1 1 := by
      show ∃ yk : Int, (match kO σ 0 c1 0 with | none => -1 | some q => nI q) = iI yk ∧ (-1 ≤ yk ∧ yk < 65536) ∧ k255 yk = (match kO σ 0 c1 0 with | none => 255 | some q => q)
      cases hk : kO σ 0 c1 0 with
      | none => exact ⟨-1, rfl, by omega, rfl⟩
      | some q => exact ⟨q, (iI_nat q).symm, by have := (hp.2.1 c1 q hc1 hk).1; omega, (if_neg (by omega)).trans (Int.toNat_natCast q)⟩
    refine x_steq (st1 := [.int (iI yk), .ref (kA σ 0 0)]) (by rw [← hyk]; rfl) ?_
    refine x_callV hC xv_X2_453 dX2_image_70 (q := 73) rfl rfl (m_X2_writes h0 σ gF (kFil (kByt σ) (kV σ 4 0) (4 + 6 * c1 + 1)) (4 + 6 * c1 + 1) (by omega) yk hyb) (nn := (0, 0)) rfl rfl rfl (Nat.le_of_ble_eq_true rfl) ⟨(Nat.le_of_ble_eq_true rfl), (Nat.le_of_ble_eq_true rfl)⟩ ⟨(Nat.le_of_ble_eq_true rfl), (Nat.le_of_ble_eq_true rfl)⟩ (fun v g1 hp => ?_)
    obtain ⟨rfl, hg1⟩ := hp
    replace hg1 := hg1.symm
    subst hg1
    refine x_geq (g' := kmix (kIm σ (kFil (kByt σ) (kV σ 4 0) (4 + 6 * c1 + 2)) (4 + 6 * c1 + 2)) gF) (by rw [kFil_s _ _ _ (by rw [kByt_c σ hc1 (r := 1) (by decide)]; rw [hyd])]) ?_
    have hpb : -1 ≤ kI σ 33 c1 ∧ kI σ 33 c1 < 65536 := by
      cases hk : kO σ 0 c1 0 with
      | none => rw [hp.2.2 c1 hc1 hk]; omega
      | some q => obtain ⟨h1, pl, h2, h3⟩ := hp.2.1 c1 q hc1 hk; have := hw.2.2.2.1 q h1; omega
    refine x_aloadr_n hC dX2_image_73 (q := 74) rfl rfl ?_
    refine x_aloadr_n hC dX2_image_74 (q := 75) rfl rfl ?_
    refine x_get hC xf_X2_370_5 dX2_image_75 (q := 78) rfl (n := (20, c1)) (kg_20 (σ := (kIm σ (kFil (kByt σ) (kV σ 4 0) (4 + 6 * c1 + 2)) (4 + 6 * c1 + 2))) c1 hc1) rfl ?_
    refine x_callV hC xv_X2_453 dX2_image_78 (q := 81) rfl rfl (m_X2_writes h0 σ gF (kFil (kByt σ) (kV σ 4 0) (4 + 6 * c1 + 2)) (4 + 6 * c1 + 2) (by omega) (kI σ 33 c1) hpb) (nn := (0, 0)) rfl rfl rfl (Nat.le_of_ble_eq_true rfl) ⟨(Nat.le_of_ble_eq_true rfl), (Nat.le_of_ble_eq_true rfl)⟩ ⟨(Nat.le_of_ble_eq_true rfl), (Nat.le_of_ble_eq_true rfl)⟩ (fun v g1 hp => ?_)
    obtain ⟨rfl, hg1⟩ := hp
    replace hg1 := hg1.symm
    subst hg1
    refine x_geq (g' := kmix (kIm σ (kFil (kByt σ) (kV σ 4 0) (4 + 6 * c1 + 3)) (4 + 6 * c1 + 3)) gF) (by rw [kFil_s _ _ _ (by rw [kByt_c σ hc1 (r := 2) (by decide)]; rfl)]) ?_
    refine x_aloadr_n hC dX2_image_81 (q := 82) rfl rfl ?_
    refine x_aloadr_n hC dX2_image_82 (q := 83) rfl rfl ?_
    refine x_get hC xf_X2_371_5 dX2_image_83 (q := 86) rfl (n := (20, c1)) (kg_20 (σ := (kIm σ (kFil (kByt σ) (kV σ 4 0) (4 + 6 * c1 + 3)) (4 + 6 * c1 + 3))) c1 hc1) rfl ?_
    refine x_callV hC xv_X2_453 dX2_image_86 (q := 89) rfl rfl (m_X2_writes h0 σ gF (kFil (kByt σ) (kV σ 4 0) (4 + 6 * c1 + 3)) (4 + 6 * c1 + 3) (by omega) (kI σ 34 c1) ⟨by omega, by omega⟩) (nn := (0, 0)) rfl rfl rfl (Nat.le_of_ble_eq_true rfl) ⟨(Nat.le_of_ble_eq_true rfl), (Nat.le_of_ble_eq_true rfl)⟩ ⟨(Nat.le_of_ble_eq_true rfl), (Nat.le_of_ble_eq_true rfl)⟩ (fun v g1 hp => ?_)
    obtain ⟨rfl, hg1⟩ := hp
    replace hg1 := hg1.symm
    subst hg1
    refine x_geq (g' := kmix (kIm σ (kFil (kByt σ) (kV σ 4 0) (4 + 6 * c1 + 4)) (4 + 6 * c1 + 4)) gF) (by rw [kFil_s _ _ _ (by rw [kByt_c σ hc1 (r := 3) (by decide)]; rfl)]) ?_
    refine x_aloadr_n hC dX2_image_89 (q := 90) rfl rfl ?_
    refine x_aloadr_n hC dX2_image_90 (q := 91) rfl rfl ?_
    refine x_get hC xf_X2_373_5 dX2_image_91 (q := 94) rfl (n := (20, c1)) (kg_20 (σ := (kIm σ (kFil (kByt σ) (kV σ 4 0) (4 + 6 * c1 + 4)) (4 + 6 * c1 + 4))) c1 hc1) rfl ?_
    refine x_if_eq hC dX2_image_94 (q := 97) rfl (tgt := 101) rfl (fun h94 => ?_) (fun h94 => ?_)
    · have hb4 : kBy6 σ c1 4 = 0 := if_pos h94
      refine x_iconst hC dX2_image_101 (q := 102) rfl (v := (0)) (by decide) ?_
      refine x_steq (st1 := [.int (iI ((kBy6 σ c1 4 : Nat) : Int)), .ref (kA σ 0 0)]) (by rw [hb4]; rfl) ?_
      refine x_callV hC xv_X2_453 dX2_image_102 (q := 105) rfl rfl (m_X2_writes h0 σ gF (kFil (kByt σ) (kV σ 4 0) (4 + 6 * c1 + 4)) (4 + 6 * c1 + 4) (by omega) ((kBy6 σ c1 4 : Nat) : Int) (by rw [hb4]; omega)) (nn := (0, 0)) rfl rfl rfl (Nat.le_of_ble_eq_true rfl) ⟨(Nat.le_of_ble_eq_true rfl), (Nat.le_of_ble_eq_true rfl)⟩ ⟨(Nat.le_of_ble_eq_true rfl), (Nat.le_of_ble_eq_true rfl)⟩ (fun v g1 hp => ?_)
      obtain ⟨rfl, hg1⟩ := hp
      replace hg1 := hg1.symm
      subst hg1
      refine x_geq (g' := kmix (kIm σ (kFil (kByt σ) (kV σ 4 0) (4 + 6 * c1 + 5)) (4 + 6 * c1 + 5)) gF) (by rw [kFil_s _ _ _ (by rw [kByt_c σ hc1 (r := 4) (by decide)]; rw [hb4]; rfl)]) ?_
      refine x_aloadr_n hC dX2_image_105 (q := 106) rfl rfl ?_
      refine x_aloadr_n hC dX2_image_106 (q := 107) rfl rfl ?_
      refine x_get hC xf_X2_412_5 dX2_image_107 (q := 110) rfl (n := (20, c1)) (kg_20 (σ := (kIm σ (kFil (kByt σ) (kV σ 4 0) (4 + 6 * c1 + 5)) (4 + 6 * c1 + 5))) c1 hc1) rfl ?_
      refine x_steq (st1 := [.int (nI (kI σ 35 c1).toNat), .ref (kA σ 0 0)]) (by rw [show nI (kI σ 35 c1).toNat = iI (kI σ 35 c1) by rw [← iI_nat, Int.toNat_of_nonneg n2.1]]; rfl) ?_
      refine x_callV hC xv_X2_459 dX2_image_110 (q := 113) rfl rfl (m_X2_writesBits h0 σ gF (kFil (kByt σ) (kV σ 4 0) (4 + 6 * c1 + 5)) (4 + 6 * c1 + 5) (by omega) (kI σ 35 c1).toNat (by omega)) (nn := (0, 0)) rfl rfl rfl (Nat.le_of_ble_eq_true rfl) ⟨(Nat.le_of_ble_eq_true rfl), (Nat.le_of_ble_eq_true rfl)⟩ ⟨(Nat.le_of_ble_eq_true rfl), (Nat.le_of_ble_eq_true rfl)⟩ (fun v g1 hp => ?_)
      obtain ⟨rfl, hg1⟩ := hp
      replace hg1 := hg1.symm
      subst hg1
      refine x_geq (g' := kmix (kIm σ (kFil (kByt σ) (kV σ 4 0) (4 + 6 * c1 + 6)) (4 + 6 * c1 + 6)) gF) (by rw [kFil_s _ _ _ (by rw [kByt_c σ hc1 (r := 5) (by decide)]; rfl)]) ?_
      refine x_geq (g' := kmix (kIm σ (kFil (kByt σ) (kV σ 4 0) (4 + 6 * (c1 + 1))) (4 + 6 * (c1 + 1))) gF) (by rw [show 4 + 6 * c1 + (5 + 1) = 4 + 6 * (c1 + 1) by omega]) ?_
      refine x_iinc hC dX2_image_113 (q := 116) rfl rfl (v := nI (c1 + 1)) (nI_1 c1) ?_
      refine x_goto hC dX2_image_116 (tgt := 26) rfl ?_
      refine x_lvle (lv' := [some (.ref (kA σ 0 0)), some (.int (nI (c1 + 1))), none]) (by repeat' constructor) ?_
      exact ih (c1 + 1) (by omega) (by omega)
    have hb4 : kBy6 σ c1 4 = 1 := if_neg h94
    refine x_iconst hC dX2_image_97 (q := 98) rfl (v := (1)) (by decide) ?_
    refine x_goto hC dX2_image_98 (tgt := 102) rfl ?_
    refine x_steq (st1 := [.int (iI ((kBy6 σ c1 4 : Nat) : Int)), .ref (kA σ 0 0)]) (by rw [hb4]; rfl) ?_
    refine x_callV hC xv_X2_453 dX2_image_102 (q := 105) rfl rfl (m_X2_writes h0 σ gF (kFil (kByt σ) (kV σ 4 0) (4 + 6 * c1 + 4)) (4 + 6 * c1 + 4) (by omega) ((kBy6 σ c1 4 : Nat) : Int) (by rw [hb4]; omega)) (nn := (0, 0)) rfl rfl rfl (Nat.le_of_ble_eq_true rfl) ⟨(Nat.le_of_ble_eq_true rfl), (Nat.le_of_ble_eq_true rfl)⟩ ⟨(Nat.le_of_ble_eq_true rfl), (Nat.le_of_ble_eq_true rfl)⟩ (fun v g1 hp => ?_)
    obtain ⟨rfl, hg1⟩ := hp
    replace hg1 := hg1.symm
    subst hg1
    refine x_geq (g' := kmix (kIm σ (kFil (kByt σ) (kV σ 4 0) (4 + 6 * c1 + 5)) (4 + 6 * c1 + 5)) gF) (by rw [kFil_s _ _ _ (by rw [kByt_c σ hc1 (r := 4) (by decide)]; rw [hb4]; rfl)]) ?_
    refine x_aloadr_n hC dX2_image_105 (q := 106) rfl rfl ?_
    refine x_aloadr_n hC dX2_image_106 (q := 107) rfl rfl ?_
    refine x_get hC xf_X2_412_5 dX2_image_107 (q := 110) rfl (n := (20, c1)) (kg_20 (σ := (kIm σ (kFil (kByt σ) (kV σ 4 0) (4 + 6 * c1 + 5)) (4 + 6 * c1 + 5))) c1 hc1) rfl ?_
    refine x_steq (st1 := [.int (nI (kI σ 35 c1).toNat), .ref (kA σ 0 0)]) (by rw [show nI (kI σ 35 c1).toNat = iI (kI σ 35 c1) by rw [← iI_nat, Int.toNat_of_nonneg n2.1]]; rfl) ?_
    refine x_callV hC xv_X2_459 dX2_image_110 (q := 113) rfl rfl (m_X2_writesBits h0 σ gF (kFil (kByt σ) (kV σ 4 0) (4 + 6 * c1 + 5)) (4 + 6 * c1 + 5) (by omega) (kI σ 35 c1).toNat (by omega)) (nn := (0, 0)) rfl rfl rfl (Nat.le_of_ble_eq_true rfl) ⟨(Nat.le_of_ble_eq_true rfl), (Nat.le_of_ble_eq_true rfl)⟩ ⟨(Nat.le_of_ble_eq_true rfl), (Nat.le_of_ble_eq_true rfl)⟩ (fun v g1 hp => ?_)
    obtain ⟨rfl, hg1⟩ := hp
    replace hg1 := hg1.symm
    subst hg1
    refine x_geq (g' := kmix (kIm σ (kFil (kByt σ) (kV σ 4 0) (4 + 6 * c1 + 6)) (4 + 6 * c1 + 6)) gF) (by rw [kFil_s _ _ _ (by rw [kByt_c σ hc1 (r := 5) (by decide)]; rfl)]) ?_
    refine x_geq (g' := kmix (kIm σ (kFil (kByt σ) (kV σ 4 0) (4 + 6 * (c1 + 1))) (4 + 6 * (c1 + 1))) gF) (by rw [show 4 + 6 * c1 + (5 + 1) = 4 + 6 * (c1 + 1) by omega]) ?_
    refine x_iinc hC dX2_image_113 (q := 116) rfl rfl (v := nI (c1 + 1)) (nI_1 c1) ?_
    refine x_goto hC dX2_image_116 (tgt := 26) rfl ?_
    refine x_lvle (lv' := [some (.ref (kA σ 0 0)), some (.int (nI (c1 + 1))), none]) (by repeat' constructor) ?_
    exact ih (c1 + 1) (by omega) (by omega)
  have hb0 : kBy6 σ c1 0 = 1 := if_neg (fun q => h54 (if_pos q))
  refine x_iconst hC dX2_image_57 (q := 58) rfl (v := (1)) (by decide) ?_
  refine x_goto hC dX2_image_58 (tgt := 62) rfl ?_
  refine x_geq (g' := kmix (kIm σ (kFil (kByt σ) (kV σ 4 0) (4 + 6 * c1 + 0)) (4 + 6 * c1 + 0)) gF) rfl ?_
  refine x_steq (st1 := [.int (iI ((kBy6 σ c1 0 : Nat) : Int)), .ref (kA σ 0 0)]) (by rw [hb0]; rfl) ?_
  refine x_callV hC xv_X2_453 dX2_image_62 (q := 65) rfl rfl (m_X2_writes h0 σ gF (kFil (kByt σ) (kV σ 4 0) (4 + 6 * c1 + 0)) (4 + 6 * c1 + 0) (by omega) ((kBy6 σ c1 0 : Nat) : Int) (by rw [hb0]; omega)) (nn := (0, 0)) rfl rfl rfl (Nat.le_of_ble_eq_true rfl) ⟨(Nat.le_of_ble_eq_true rfl), (Nat.le_of_ble_eq_true rfl)⟩ ⟨(Nat.le_of_ble_eq_true rfl), (Nat.le_of_ble_eq_true rfl)⟩ (fun v g1 hp => ?_)
  obtain ⟨rfl, hg1⟩ := hp
  replace hg1 := hg1.symm
  subst hg1
  refine x_geq (g' := kmix (kIm σ (kFil (kByt σ) (kV σ 4 0) (4 + 6 * c1 + 1)) (4 + 6 * c1 + 1)) gF) (by rw [kFil_s _ _ _ (by rw [kByt_c σ hc1 (r := 0) (by decide)]; rw [hb0]; rfl)]) ?_
  refine x_aloadr_n hC dX2_image_65 (q := 66) rfl rfl ?_
  refine x_aloadr_n hC dX2_image_66 (q := 67) rfl rfl ?_
  refine x_callV hC xv_X2_368 dX2_image_67 (q := 70) rfl rfl (m_X8_kiln h0 (kIm σ (kFil (kByt σ) (kV σ 4 0) (4 + 6 * c1 + 1)) (4 + 6 * c1 + 1)) gF hw c1 hc1) (nn := (20, c1)) (kg_20 (σ := (kIm σ (kFil (kByt σ) (kV σ 4 0) (4 + 6 * c1 + 1)) (4 + 6 * c1 + 1))) c1 hc1) rfl rfl (Nat.le_of_ble_eq_true rfl) ⟨(Nat.le_of_ble_eq_true rfl), (Nat.le_of_ble_eq_true rfl)⟩ ⟨(Nat.le_of_ble_eq_true rfl), (Nat.le_of_ble_eq_true rfl)⟩ (fun v g1 hp => ?_)
  obtain ⟨rfl, hg1⟩ := hp
  replace hg1 := hg1.symm
  subst hg1
  obtain ⟨yk, hyk, hyb, hyd⟩ : ∃ yk : Int, kKil σ c1 = iI yk ∧ (-1 ≤ yk ∧ yk < 65536) ∧ k255 yk = kBy6 σ c1 1 := by
    show ∃ yk : Int, (match kO σ 0 c1 0 with | none => -1 | some q => nI q) = iI yk ∧ (-1 ≤ yk ∧ yk < 65536) ∧ k255 yk = (match kO σ 0 c1 0 with | none => 255 | some q => q)
    cases hk : kO σ 0 c1 0 with
    | none => exact ⟨-1, rfl, by omega, rfl⟩
    | some q => exact ⟨q, (iI_nat q).symm, by have := (hp.2.1 c1 q hc1 hk).1; omega, (if_neg (by omega)).trans (Int.toNat_natCast q)⟩
  refine x_steq (st1 := [.int (iI yk), .ref (kA σ 0 0)]) (by rw [← hyk]; rfl) ?_
  refine x_callV hC xv_X2_453 dX2_image_70 (q := 73) rfl rfl (m_X2_writes h0 σ gF (kFil (kByt σ) (kV σ 4 0) (4 + 6 * c1 + 1)) (4 + 6 * c1 + 1) (by omega) yk hyb) (nn := (0, 0)) rfl rfl rfl (Nat.le_of_ble_eq_true rfl) ⟨(Nat.le_of_ble_eq_true rfl), (Nat.le_of_ble_eq_true rfl)⟩ ⟨(Nat.le_of_ble_eq_true rfl), (Nat.le_of_ble_eq_true rfl)⟩ (fun v g1 hp => ?_)
  obtain ⟨rfl, hg1⟩ := hp
  replace hg1 := hg1.symm
  subst hg1
  refine x_geq (g' := kmix (kIm σ (kFil (kByt σ) (kV σ 4 0) (4 + 6 * c1 + 2)) (4 + 6 * c1 + 2)) gF) (by rw [kFil_s _ _ _ (by rw [kByt_c σ hc1 (r := 1) (by decide)]; rw [hyd])]) ?_
  have hpb : -1 ≤ kI σ 33 c1 ∧ kI σ 33 c1 < 65536 := by
    cases hk : kO σ 0 c1 0 with
    | none => rw [hp.2.2 c1 hc1 hk]; omega
    | some q => obtain ⟨h1, pl, h2, h3⟩ := hp.2.1 c1 q hc1 hk; have := hw.2.2.2.1 q h1; omega
  refine x_aloadr_n hC dX2_image_73 (q := 74) rfl rfl ?_
  refine x_aloadr_n hC dX2_image_74 (q := 75) rfl rfl ?_
  refine x_get hC xf_X2_370_5 dX2_image_75 (q := 78) rfl (n := (20, c1)) (kg_20 (σ := (kIm σ (kFil (kByt σ) (kV σ 4 0) (4 + 6 * c1 + 2)) (4 + 6 * c1 + 2))) c1 hc1) rfl ?_
  refine x_callV hC xv_X2_453 dX2_image_78 (q := 81) rfl rfl (m_X2_writes h0 σ gF (kFil (kByt σ) (kV σ 4 0) (4 + 6 * c1 + 2)) (4 + 6 * c1 + 2) (by omega) (kI σ 33 c1) hpb) (nn := (0, 0)) rfl rfl rfl (Nat.le_of_ble_eq_true rfl) ⟨(Nat.le_of_ble_eq_true rfl), (Nat.le_of_ble_eq_true rfl)⟩ ⟨(Nat.le_of_ble_eq_true rfl), (Nat.le_of_ble_eq_true rfl)⟩ (fun v g1 hp => ?_)
  obtain ⟨rfl, hg1⟩ := hp
  replace hg1 := hg1.symm
  subst hg1
  refine x_geq (g' := kmix (kIm σ (kFil (kByt σ) (kV σ 4 0) (4 + 6 * c1 + 3)) (4 + 6 * c1 + 3)) gF) (by rw [kFil_s _ _ _ (by rw [kByt_c σ hc1 (r := 2) (by decide)]; rfl)]) ?_
  refine x_aloadr_n hC dX2_image_81 (q := 82) rfl rfl ?_
  refine x_aloadr_n hC dX2_image_82 (q := 83) rfl rfl ?_
  refine x_get hC xf_X2_371_5 dX2_image_83 (q := 86) rfl (n := (20, c1)) (kg_20 (σ := (kIm σ (kFil (kByt σ) (kV σ 4 0) (4 + 6 * c1 + 3)) (4 + 6 * c1 + 3))) c1 hc1) rfl ?_
  refine x_callV hC xv_X2_453 dX2_image_86 (q := 89) rfl rfl (m_X2_writes h0 σ gF (kFil (kByt σ) (kV σ 4 0) (4 + 6 * c1 + 3)) (4 + 6 * c1 + 3) (by omega) (kI σ 34 c1) ⟨by omega, by omega⟩) (nn := (0, 0)) rfl rfl rfl (Nat.le_of_ble_eq_true rfl) ⟨(Nat.le_of_ble_eq_true rfl), (Nat.le_of_ble_eq_true rfl)⟩ ⟨(Nat.le_of_ble_eq_true rfl), (Nat.le_of_ble_eq_true rfl)⟩ (fun v g1 hp => ?_)
  obtain ⟨rfl, hg1⟩ := hp
  replace hg1 := hg1.symm
  subst hg1
  refine x_geq (g' := kmix (kIm σ (kFil (kByt σ) (kV σ 4 0) (4 + 6 * c1 + 4)) (4 + 6 * c1 + 4)) gF) (by rw [kFil_s _ _ _ (by rw [kByt_c σ hc1 (r := 3) (by decide)]; rfl)]) ?_
  refine x_aloadr_n hC dX2_image_89 (q := 90) rfl rfl ?_
  refine x_aloadr_n hC dX2_image_90 (q := 91) rfl rfl ?_
  refine x_get hC xf_X2_373_5 dX2_image_91 (q := 94) rfl (n := (20, c1)) (kg_20 (σ := (kIm σ (kFil (kByt σ) (kV σ 4 0) (4 + 6 * c1 + 4)) (4 + 6 * c1 + 4))) c1 hc1) rfl ?_
  refine x_if_eq hC dX2_image_94 (q := 97) rfl (tgt := 101) rfl (fun h94 => ?_) (fun h94 => ?_)
  · have hb4 : kBy6 σ c1 4 = 0 := if_pos h94
    refine x_iconst hC dX2_image_101 (q := 102) rfl (v := (0)) (by decide) ?_
    refine x_steq (st1 := [.int (iI ((kBy6 σ c1 4 : Nat) : Int)), .ref (kA σ 0 0)]) (by rw [hb4]; rfl) ?_
    refine x_callV hC xv_X2_453 dX2_image_102 (q := 105) rfl rfl (m_X2_writes h0 σ gF (kFil (kByt σ) (kV σ 4 0) (4 + 6 * c1 + 4)) (4 + 6 * c1 + 4) (by omega) ((kBy6 σ c1 4 : Nat) : Int) (by rw [hb4]; omega)) (nn := (0, 0)) rfl rfl rfl (Nat.le_of_ble_eq_true rfl) ⟨(Nat.le_of_ble_eq_true rfl), (Nat.le_of_ble_eq_true rfl)⟩ ⟨(Nat.le_of_ble_eq_true rfl), (Nat.le_of_ble_eq_true rfl)⟩ (fun v g1 hp => ?_)
    obtain ⟨rfl, hg1⟩ := hp
    replace hg1 := hg1.symm
    subst hg1
    refine x_geq (g' := kmix (kIm σ (kFil (kByt σ) (kV σ 4 0) (4 + 6 * c1 + 5)) (4 + 6 * c1 + 5)) gF) (by rw [kFil_s _ _ _ (by rw [kByt_c σ hc1 (r := 4) (by decide)]; rw [hb4]; rfl)]) ?_
    refine x_aloadr_n hC dX2_image_105 (q := 106) rfl rfl ?_
    refine x_aloadr_n hC dX2_image_106 (q := 107) rfl rfl ?_
    refine x_get hC xf_X2_412_5 dX2_image_107 (q := 110) rfl (n := (20, c1)) (kg_20 (σ := (kIm σ (kFil (kByt σ) (kV σ 4 0) (4 + 6 * c1 + 5)) (4 + 6 * c1 + 5))) c1 hc1) rfl ?_
    refine x_steq (st1 := [.int (nI (kI σ 35 c1).toNat), .ref (kA σ 0 0)]) (by rw [show nI (kI σ 35 c1).toNat = iI (kI σ 35 c1) by rw [← iI_nat, Int.toNat_of_nonneg n2.1]]; rfl) ?_
    refine x_callV hC xv_X2_459 dX2_image_110 (q := 113) rfl rfl (m_X2_writesBits h0 σ gF (kFil (kByt σ) (kV σ 4 0) (4 + 6 * c1 + 5)) (4 + 6 * c1 + 5) (by omega) (kI σ 35 c1).toNat (by omega)) (nn := (0, 0)) rfl rfl rfl (Nat.le_of_ble_eq_true rfl) ⟨(Nat.le_of_ble_eq_true rfl), (Nat.le_of_ble_eq_true rfl)⟩ ⟨(Nat.le_of_ble_eq_true rfl), (Nat.le_of_ble_eq_true rfl)⟩ (fun v g1 hp => ?_)
    obtain ⟨rfl, hg1⟩ := hp
    replace hg1 := hg1.symm
    subst hg1
    refine x_geq (g' := kmix (kIm σ (kFil (kByt σ) (kV σ 4 0) (4 + 6 * c1 + 6)) (4 + 6 * c1 + 6)) gF) (by rw [kFil_s _ _ _ (by rw [kByt_c σ hc1 (r := 5) (by decide)]; rfl)]) ?_
    refine x_geq (g' := kmix (kIm σ (kFil (kByt σ) (kV σ 4 0) (4 + 6 * (c1 + 1))) (4 + 6 * (c1 + 1))) gF) (by rw [show 4 + 6 * c1 + (5 + 1) = 4 + 6 * (c1 + 1) by omega]) ?_
    refine x_iinc hC dX2_image_113 (q := 116) rfl rfl (v := nI (c1 + 1)) (nI_1 c1) ?_
    refine x_goto hC dX2_image_116 (tgt := 26) rfl ?_
    refine x_lvle (lv' := [some (.ref (kA σ 0 0)), some (.int (nI (c1 + 1))), none]) (by repeat' constructor) ?_
    exact ih (c1 + 1) (by omega) (by omega)
  have hb4 : kBy6 σ c1 4 = 1 := if_neg h94
  refine x_iconst hC dX2_image_97 (q := 98) rfl (v := (1)) (by decide) ?_
  refine x_goto hC dX2_image_98 (tgt := 102) rfl ?_
  refine x_steq (st1 := [.int (iI ((kBy6 σ c1 4 : Nat) : Int)), .ref (kA σ 0 0)]) (by rw [hb4]; rfl) ?_
  refine x_callV hC xv_X2_453 dX2_image_102 (q := 105) rfl rfl (m_X2_writes h0 σ gF (kFil (kByt σ) (kV σ 4 0) (4 + 6 * c1 + 4)) (4 + 6 * c1 + 4) (by omega) ((kBy6 σ c1 4 : Nat) : Int) (by rw [hb4]; omega)) (nn := (0, 0)) rfl rfl rfl (Nat.le_of_ble_eq_true rfl) ⟨(Nat.le_of_ble_eq_true rfl), (Nat.le_of_ble_eq_true rfl)⟩ ⟨(Nat.le_of_ble_eq_true rfl), (Nat.le_of_ble_eq_true rfl)⟩ (fun v g1 hp => ?_)
  obtain ⟨rfl, hg1⟩ := hp
  replace hg1 := hg1.symm
  subst hg1
  refine x_geq (g' := kmix (kIm σ (kFil (kByt σ) (kV σ 4 0) (4 + 6 * c1 + 5)) (4 + 6 * c1 + 5)) gF) (by rw [kFil_s _ _ _ (by rw [kByt_c σ hc1 (r := 4) (by decide)]; rw [hb4]; rfl)]) ?_
  refine x_aloadr_n hC dX2_image_105 (q := 106) rfl rfl ?_
  refine x_aloadr_n hC dX2_image_106 (q := 107) rfl rfl ?_
  refine x_get hC xf_X2_412_5 dX2_image_107 (q := 110) rfl (n := (20, c1)) (kg_20 (σ := (kIm σ (kFil (kByt σ) (kV σ 4 0) (4 + 6 * c1 + 5)) (4 + 6 * c1 + 5))) c1 hc1) rfl ?_
  refine x_steq (st1 := [.int (nI (kI σ 35 c1).toNat), .ref (kA σ 0 0)]) (by rw [show nI (kI σ 35 c1).toNat = iI (kI σ 35 c1) by rw [← iI_nat, Int.toNat_of_nonneg n2.1]]; rfl) ?_
  refine x_callV hC xv_X2_459 dX2_image_110 (q := 113) rfl rfl (m_X2_writesBits h0 σ gF (kFil (kByt σ) (kV σ 4 0) (4 + 6 * c1 + 5)) (4 + 6 * c1 + 5) (by omega) (kI σ 35 c1).toNat (by omega)) (nn := (0, 0)) rfl rfl rfl (Nat.le_of_ble_eq_true rfl) ⟨(Nat.le_of_ble_eq_true rfl), (Nat.le_of_ble_eq_true rfl)⟩ ⟨(Nat.le_of_ble_eq_true rfl), (Nat.le_of_ble_eq_true rfl)⟩ (fun v g1 hp => ?_)
  obtain ⟨rfl, hg1⟩ := hp
  replace hg1 := hg1.symm
  subst hg1
  refine x_geq (g' := kmix (kIm σ (kFil (kByt σ) (kV σ 4 0) (4 + 6 * c1 + 6)) (4 + 6 * c1 + 6)) gF) (by rw [kFil_s _ _ _ (by rw [kByt_c σ hc1 (r := 5) (by decide)]; rfl)]) ?_
  refine x_geq (g' := kmix (kIm σ (kFil (kByt σ) (kV σ 4 0) (4 + 6 * (c1 + 1))) (4 + 6 * (c1 + 1))) gF) (by rw [show 4 + 6 * c1 + (5 + 1) = 4 + 6 * (c1 + 1) by omega]) ?_
  refine x_iinc hC dX2_image_113 (q := 116) rfl rfl (v := nI (c1 + 1)) (nI_1 c1) ?_
  refine x_goto hC dX2_image_116 (tgt := 26) rfl ?_
  refine x_lvle (lv' := [some (.ref (kA σ 0 0)), some (.int (nI (c1 + 1))), none]) (by repeat' constructor) ?_
  exact ih (c1 + 1) (by omega) (by omega)

theorem nI64x (n : Nat) (h : n < 2147483648) : (iI (n : Int) - 1).toInt64.toInt = (n : Int) - 1 := by rw [iI_nat]; exact nI64p h

set_option maxHeartbeats 4000000 in
set_option maxRecDepth 100000 in
theorem m_X2_octet {l : Launch} {s0 : State} {D : va_G} (h0 : x0 l s0 D) (σ : KS) (gF : xG) {n k : Nat} (hn : kI σ 6 0 = n) (hn2 : n ≤ 56) (hk : k < n) : xMet l s0 D yX2_octet cX2_octet 2 (some .int) (xr 1 0 0 25) [.ref (kA σ 0 0), .int (nI k)] (kmix σ gF) (fun r g1 => r = some (.int (iI (kV σ 4 0 k))) ∧ g1 = kmix σ gF) := by
  refine xMet.of h0 (by decide +kernel) rfl ?_
  intro p e s m args below meth c hC hr hnm
  refine x_iload_n hC dX2_octet_0 (q := 1) rfl rfl ?_
  refine x_i2l hC dX2_octet_1 (q := 2) rfl ?_
  refine x_lconst hC dX2_octet_2 (q := 3) rfl (v := 0) (by decide) ?_
  refine x_aloadr_n hC dX2_octet_3 (q := 4) rfl rfl ?_
  refine x_get hC xf_X2_450_1 dX2_octet_4 (q := 7) rfl (n := (0, 0)) rfl rfl ?_
  refine x_iconst hC dX2_octet_7 (q := 8) rfl (v := (1)) (by decide) ?_
  refine x_isub hC dX2_octet_8 (q := 9) rfl ?_
  refine x_i2l hC dX2_octet_9 (q := 10) rfl ?_
  refine x_callS hC xv_X2_95 dX2_octet_10 (q := 13) rfl rfl (m_isIn_t h0 _ (x := k) (y := 0) (z := (n : Int) - 1) (nI64 (by omega)) rfl (by rw [hn]; exact nI64x n (by omega)) (by omega)) rfl (Nat.le_of_ble_eq_true rfl) ⟨(Nat.le_of_ble_eq_true rfl), (Nat.le_of_ble_eq_true rfl)⟩ ⟨(Nat.le_of_ble_eq_true rfl), (Nat.le_of_ble_eq_true rfl)⟩ (fun v g1 hp => ?_)
  obtain ⟨rfl, hg1⟩ := hp
  replace hg1 := hg1.symm
  subst hg1
  refine x_if_eq hC dX2_octet_13 (q := 16) rfl (tgt := 25) rfl (fun h13 => ?_) (fun h13 => ?_)
  · exact absurd h13 (by decide)
  refine x_aloadr_n hC dX2_octet_16 (q := 17) rfl rfl ?_
  refine x_get hC xf_X2_52_1 dX2_octet_17 (q := 20) rfl (n := (0, 0)) rfl rfl ?_
  refine x_iload_n hC dX2_octet_20 (q := 21) rfl rfl ?_
  refine x_cald hC dX2_octet_21 (q := 22) rfl (n := (18, 0)) rfl (j := k) rfl (by omega) (by decide) ?_
  refine x_goto hC dX2_octet_22 (tgt := 26) rfl ?_
  exact x_iret hC hr dX2_octet_26 (Nat.le_of_ble_eq_true rfl) (Nat.le_of_ble_eq_true rfl) ⟨rfl, rfl⟩

set_option maxHeartbeats 4000000 in
set_option maxRecDepth 100000 in
theorem m_X2_octet_out {l : Launch} {s0 : State} {D : va_G} (h0 : x0 l s0 D) (σ : KS) (gF : xG) {n k : Nat} (hn : kI σ 6 0 = n) (hn2 : n ≤ 56) (hk : n ≤ k) (hk2 : k < 2147483648) : xMet l s0 D yX2_octet cX2_octet 2 (some .int) (xr 1 0 0 25) [.ref (kA σ 0 0), .int (nI k)] (kmix σ gF) (fun r g1 => r = some (.int (-1)) ∧ g1 = kmix σ gF) := by
  refine xMet.of h0 (by decide +kernel) rfl ?_
  intro p e s m args below meth c hC hr hnm
  refine x_iload_n hC dX2_octet_0 (q := 1) rfl rfl ?_
  refine x_i2l hC dX2_octet_1 (q := 2) rfl ?_
  refine x_lconst hC dX2_octet_2 (q := 3) rfl (v := 0) (by decide) ?_
  refine x_aloadr_n hC dX2_octet_3 (q := 4) rfl rfl ?_
  refine x_get hC xf_X2_450_1 dX2_octet_4 (q := 7) rfl (n := (0, 0)) rfl rfl ?_
  refine x_iconst hC dX2_octet_7 (q := 8) rfl (v := (1)) (by decide) ?_
  refine x_isub hC dX2_octet_8 (q := 9) rfl ?_
  refine x_i2l hC dX2_octet_9 (q := 10) rfl ?_
  refine x_callS hC xv_X2_95 dX2_octet_10 (q := 13) rfl rfl (m_isIn_f h0 _ (x := k) (y := 0) (z := (n : Int) - 1) (nI64 (by omega)) rfl (by rw [hn]; exact nI64x n (by omega)) (by omega)) rfl (Nat.le_of_ble_eq_true rfl) ⟨(Nat.le_of_ble_eq_true rfl), (Nat.le_of_ble_eq_true rfl)⟩ ⟨(Nat.le_of_ble_eq_true rfl), (Nat.le_of_ble_eq_true rfl)⟩ (fun v g1 hp => ?_)
  obtain ⟨rfl, hg1⟩ := hp
  replace hg1 := hg1.symm
  subst hg1
  refine x_if_eq hC dX2_octet_13 (q := 16) rfl (tgt := 25) rfl (fun h13 => ?_) (fun h13 => ?_)
  · refine x_iconst hC dX2_octet_25 (q := 26) rfl (v := (-1)) (by decide) ?_
    exact x_iret hC hr dX2_octet_26 (Nat.le_of_ble_eq_true rfl) (Nat.le_of_ble_eq_true rfl) ⟨rfl, rfl⟩
  · exact absurd rfl h13

set_option maxHeartbeats 4000000 in
set_option maxRecDepth 100000 in
theorem m_X2_twoAt {l : Launch} {s0 : State} {D : va_G} (h0 : x0 l s0 D) (σ : KS) (gF : xG) (k : Nat) (hk : k + 1 < 1600) {x y : Nat} (hx : kV σ 0 0 k = x) (hy : kV σ 0 0 (k + 1) = y) : xMet l s0 D yX2_twoAt cX2_twoAt 2 (some .int) (xr 0 0 0 0) [.ref (kA σ 0 0), .int (nI k)] (kmix σ gF) (fun r g1 => r = some (.int (nI (256 * x + y))) ∧ g1 = kmix σ gF) := by
  refine xMet.of h0 (by decide +kernel) rfl ?_
  intro p e s m args below meth c hC hr hnm
  refine x_sipush hC dX2_twoAt_0 (q := 3) rfl (v := (256)) (by decide) ?_
  refine x_aloadr_n hC dX2_twoAt_3 (q := 4) rfl rfl ?_
  refine x_get hC xf_X2_9_1 dX2_twoAt_4 (q := 7) rfl (n := (0, 0)) rfl rfl ?_
  refine x_iload_n hC dX2_twoAt_7 (q := 8) rfl rfl ?_
  refine x_cald hC dX2_twoAt_8 (q := 9) rfl (n := (1, 0)) rfl (j := k) rfl (by omega) (by decide) ?_
  refine x_imul hC dX2_twoAt_9 (q := 10) rfl ?_
  refine x_aloadr_n hC dX2_twoAt_10 (q := 11) rfl rfl ?_
  refine x_get hC xf_X2_9_1 dX2_twoAt_11 (q := 14) rfl (n := (0, 0)) rfl rfl ?_
  refine x_iload_n hC dX2_twoAt_14 (q := 15) rfl rfl ?_
  refine x_iconst hC dX2_twoAt_15 (q := 16) rfl (v := (1)) (by decide) ?_
  refine x_iadd hC dX2_twoAt_16 (q := 17) rfl ?_
  refine x_cald hC dX2_twoAt_17 (q := 18) rfl (n := (1, 0)) rfl (j := k + 1) (nI_1 k) (by omega) (by decide) ?_
  refine x_iadd hC dX2_twoAt_18 (q := 19) rfl ?_
  exact x_iret hC hr dX2_twoAt_19 (Nat.le_of_ble_eq_true rfl) (Nat.le_of_ble_eq_true rfl) ⟨by rw [hx, hy, iI_nat, iI_nat, show (256 : Int32) = nI 256 from rfl, pk_mul, nI_add], rfl⟩

set_option maxHeartbeats 4000000 in
set_option maxRecDepth 100000 in
theorem m_X2_orNone {l : Launch} {s0 : State} {D : va_G} (h0 : x0 l s0 D) (g : xG) (x : Nat) (hx : x < 65536) : xMet l s0 D yX2_orNone cX2_orNone 1 (some .int) (xr 0 0 0 0) [.int (nI x)] g (fun r g1 => r = some (.int (if x = 255 then -1 else nI x)) ∧ g1 = g) := by
  refine xMet.of h0 (by decide +kernel) rfl ?_
  intro p e s m args below meth c hC hr hnm
  refine x_iload_n hC dX2_orNone_0 (q := 1) rfl rfl ?_
  refine x_sipush hC dX2_orNone_1 (q := 4) rfl (v := (255)) (by decide) ?_
  refine x_icmp_ne hC dX2_orNone_4 (q := 7) rfl (tgt := 11) rfl (fun h4 => ?_) (fun h4 => ?_)
  · have hne : ¬ x = 255 := fun q => h4 (by rw [q]; rfl)
    rw [if_neg hne]
    refine x_iload_n hC dX2_orNone_11 (q := 12) rfl rfl ?_
    exact x_iret hC hr dX2_orNone_12 (Nat.le_of_ble_eq_true rfl) (Nat.le_of_ble_eq_true rfl) ⟨rfl, rfl⟩
  have hne : x = 255 := (nI_eq (by omega) (by decide)).mp h4
  rw [if_pos hne]
  refine x_iconst hC dX2_orNone_7 (q := 8) rfl (v := (-1)) (by decide) ?_
  refine x_goto hC dX2_orNone_8 (tgt := 12) rfl ?_
  exact x_iret hC hr dX2_orNone_12 (Nat.le_of_ble_eq_true rfl) (Nat.le_of_ble_eq_true rfl) ⟨rfl, rfl⟩
