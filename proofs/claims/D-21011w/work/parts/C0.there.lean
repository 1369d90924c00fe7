/-! who stands where -/
/-- the class holds the law's town -/
def LT (σ : KS) (α : aA) : Prop := kA σ 61 0 = aI α 0 ∧ kA σ 62 0 = aI α 1 ∧ (∀ c, c < aI α 0 → kI σ 31 c = aCl α c ∧ kI σ 32 c = aGr α c) ∧ (∀ q, q < aI α 1 → kA σ 25 q = aRo α q)
theorem AH.km {gF : xG} {aa : Nat} {α : aA} (h : AH gF aa α) (σ : KS) : AH (kmix σ gF) aa α := h.ext (fun n h1 _ => kmix_F σ gF n (by
  cases e : Nat.blt n.1 40 with
  | false => rfl
  | true => exact absurd (Nat.le_of_ble_eq_true e) (by omega)))
def aAt (σ : KS) (q p c : Nat) : Int32 := match kO σ 1 q p with
  | none => -1
  | some d => if d < c then nI d else -1
theorem aAt_s {σ : KS} {q p c : Nat} (h : kO σ 1 q p = some c) : aAt σ q p c = -1 ∧ aAt σ q p (c + 1) = nI c := by
  unfold aAt
  rw [h]
  exact ⟨if_neg (Nat.lt_irrefl c), if_pos (Nat.lt_succ_self c)⟩
theorem aAt_n {σ : KS} {q p c : Nat} (h : ¬ kO σ 1 q p = some c) : aAt σ q p (c + 1) = aAt σ q p c := by
  unfold aAt
  cases e : kO σ 1 q p with
  | none => rfl
  | some d =>
    have hd : d ≠ c := fun q => h (by rw [e, q])
    show (if d < c + 1 then nI d else -1) = if d < c then nI d else -1
    by_cases h2 : d < c
    · rw [if_pos h2, if_pos (by omega)]
    · rw [if_neg h2, if_neg (by omega)]
theorem aAt_0 (σ : KS) (q p : Nat) : aAt σ q p 0 = -1 := by
  unfold aAt
  cases kO σ 1 q p with
  | none => rfl
  | some d => exact if_neg (Nat.not_lt_zero d)
theorem LT.pl {σ : KS} {α : aA} (hl : LT σ α) (hp : KPl σ) (hok : aOk α) {q p : Nat} (hq : q < aI α 1) : kPl σ q p = aAt σ q p (aI α 0) ∧ (0 ≤ aAt σ q p (aI α 0) → p < aRo α q) := by
  unfold kPl aAt
  rw [hl.2.2.2 q hq]
  cases e : kO σ 1 q p with
  | none =>
    refine ⟨by split <;> rfl, fun h => absurd (show (0 : Int32) ≤ -1 from h) (by decide)⟩
  | some d =>
    have h1 := (hp.1 q p d).mp e
    have hd : d < aI α 0 := by rw [← hl.1]; exact h1.1
    obtain ⟨-, p1, h2, h3⟩ := hp.2.1 d q h1.1 h1.2.1
    have h4 : p1 = p := by have := h1.2.2; omega
    rw [h4, hl.2.2.2 q hq] at h2
    show (if p < aRo α q then nI d else -1) = (if d < aI α 0 then nI d else -1) ∧ _
    rw [if_pos h2, if_pos hd]
    exact ⟨rfl, fun _ => h2⟩
theorem LT.kil {σ : KS} {α : aA} (hl : LT σ α) (hp : KPl σ) (hok : aOk α) {c q : Nat} (hc : c < aI α 0) (hq : q < aI α 1) : kKil σ c = nI q ↔ kO σ 0 c 0 = some q := by
  have hn := hok.2.1
  unfold kKil
  cases e : kO σ 0 c 0 with
  | none =>
    refine ⟨fun h => ?_, fun h => by cases h⟩
    have h1 : nI q = -1 := h.symm
    have h2 := congrArg Int32.toInt h1
    rw [nI_toInt (by omega)] at h2
    have h3 : ((-1 : Int32)).toInt = -1 := by decide
    omega
  | some d =>
    have h1 := (hp.2.1 c d (by rw [hl.1]; exact hc) e).1
    rw [hl.2.1] at h1
    refine ⟨fun h => ?_, fun h => ?_⟩
    · rw [(nI_eq (by omega) (by omega)).mp h]
    · cases h; rfl
theorem LT.at33 {σ : KS} {α : aA} (hl : LT σ α) (hp : KPl σ) (hok : aOk α) {c : Nat} (hc : c < aI α 0) : -1 ≤ kI σ 33 c ∧ kI σ 33 c < 6 := by
  cases e : kO σ 0 c 0 with
  | none =>
    have := hp.2.2 c (by rw [hl.1]; exact hc) e
    omega
  | some d =>
    obtain ⟨h1, p1, h2, h3⟩ := hp.2.1 c d (by rw [hl.1]; exact hc) e
    rw [hl.2.1] at h1
    rw [hl.2.2.2 d h1] at h2
    have := (hok.2.2.2.2.2.2.2.2.2.2.2 d).2
    omega
theorem LT.on {σ : KS} {α : aA} (hl : LT σ α) (hp : KPl σ) (hok : aOk α) {c q p : Nat} (hc : c < aI α 0) (hq : q < aI α 1) (hp1 : p < 100) : (kKil σ c = nI q ∧ iI (kI σ 33 c) = nI p) ↔ kO σ 1 q p = some c := by
  have h33 := hl.at33 hp hok hc
  rw [hl.kil hp hok hc hq, ← iI_nat p, iI_eq ⟨by omega, by omega⟩ ⟨by omega, by omega⟩, hp.1 q p c, hl.1]
  exact ⟨fun h => ⟨hc, h⟩, fun h => h.2⟩

set_option maxHeartbeats 4000000 in
set_option maxRecDepth 100000 in
theorem m_X0_areThere {l : Launch} {s0 : State} {D : va_G} (h0 : x0 l s0 D) (σ : KS) (gF : xG) {aa : Nat} {α : aA} (hA : AH gF aa α) (hok : aOk α) (hw : KW σ) (hpP : KPl σ) (hl : LT σ α) : xMet l s0 D yX0_areThere cX0_areThere 6 (some .boolean) (xr 6 0 0 150) [.ref (kA σ 0 0), .ref aa] (kmix σ gF) (fun r g1 => r = some (.int 1) ∧ g1 = kmix σ gF) := by
  obtain ⟨ca, ga, ra, hat, hac, hag, har⟩ := hA.km σ
  obtain ⟨hb0, hb1, hb2, hb3, hb4, hb5, hb6, hb7, hb8, hcl, hgr, hro⟩ := id hok
  refine xMet.of h0 (by decide +kernel) rfl ?_
  intro zp ze zs zm za zb zf zc hC hr hnm
  refine x_iconst hC dX0_areThere_0 (q := 1) rfl (v := (0)) (by decide) ?_
  refine x_istore_n hC dX0_areThere_1 (q := 2) rfl rfl ?_
  refine x_loop (S := (fun x : Nat × Option Value × Option Value × Option Value => ((0 : Nat), (0 : Nat), kmix σ gF, ([some (.ref (kA σ 0 0)), some (.ref aa), some (.int (nI x.1)), x.2.1, x.2.2.1, x.2.2.2] : xL), ([] : List Value)))) (Inv := fun x => x.1 ≤ aI α 1) (μ := fun x => aI α 1 - x.1) ?_ (0, none, none, none) (Nat.zero_le _)
  intro x hi ih
  obtain ⟨q, y1, y2, y3⟩ := x
  dsimp only at hi ih ⊢
  refine x_iload_n hC dX0_areThere_2 (q := 3) rfl rfl ?_
  refine x_aloadr_n hC dX0_areThere_3 (q := 4) rfl rfl ?_
  refine x_get hC xf_X0_54_0 dX0_areThere_4 (q := 7) rfl (n := (101, 0)) hat rfl ?_
  refine x_icmp_ge hC dX0_areThere_7 (q := 10) rfl (tgt := 115) rfl (fun h7 => ?_) (fun h7 => ?_)
  · have hq1 : q = aI α 1 := by
      have := (nI_leI (a := aI α 1) (b := q) (by omega) (by omega)).mp h7
      omega
    subst hq1
    refine x_aloadr_n hC dX0_areThere_115 (q := 116) rfl rfl ?_
    refine x_aloadr_n hC dX0_areThere_116 (q := 117) rfl rfl ?_
    refine x_get hC xf_X0_54_0 dX0_areThere_117 (q := 120) rfl (n := (101, 0)) hat rfl ?_
    refine x_iconst hC dX0_areThere_120 (q := 121) rfl (v := (0)) (by decide) ?_
    refine x_callV hC xv_X0_66 dX0_areThere_121 (q := 124) rfl rfl (m_X2_place_out h0 σ gF hw (nI (aI α 1)) 0 (Or.inr (by rw [nI_toInt (by omega), hl.2.1]; exact Int.le_refl _))) (nn := (0, 0)) rfl rfl rfl (Nat.le_of_ble_eq_true rfl) ⟨(Nat.le_of_ble_eq_true rfl), (Nat.le_of_ble_eq_true rfl)⟩ ⟨(Nat.le_of_ble_eq_true rfl), (Nat.le_of_ble_eq_true rfl)⟩ (fun v g1 hp => ?_)
    obtain ⟨rfl, hg1⟩ := hp
    replace hg1 := hg1.symm
    subst hg1
    refine x_iconst hC dX0_areThere_124 (q := 125) rfl (v := (-1)) (by decide) ?_
    refine x_icmp_ne hC dX0_areThere_125 (q := 128) rfl (tgt := 142) rfl (fun h125 => ?_) (fun h125 => ?_)
    · exact absurd rfl h125
    refine x_aloadr_n hC dX0_areThere_128 (q := 129) rfl rfl ?_
    refine x_iconst hC dX0_areThere_129 (q := 130) rfl (v := (-1)) (by decide) ?_
    refine x_iconst hC dX0_areThere_130 (q := 131) rfl (v := (0)) (by decide) ?_
    refine x_callV hC xv_X0_66 dX0_areThere_131 (q := 134) rfl rfl (m_X2_place_out h0 σ gF hw (-1) 0 (Or.inl (by decide))) (nn := (0, 0)) rfl rfl rfl (Nat.le_of_ble_eq_true rfl) ⟨(Nat.le_of_ble_eq_true rfl), (Nat.le_of_ble_eq_true rfl)⟩ ⟨(Nat.le_of_ble_eq_true rfl), (Nat.le_of_ble_eq_true rfl)⟩ (fun v g1 hp => ?_)
    obtain ⟨rfl, hg1⟩ := hp
    replace hg1 := hg1.symm
    subst hg1
    refine x_iconst hC dX0_areThere_134 (q := 135) rfl (v := (-1)) (by decide) ?_
    refine x_icmp_ne hC dX0_areThere_135 (q := 138) rfl (tgt := 142) rfl (fun h135 => ?_) (fun h135 => ?_)
    · exact absurd rfl h135
    refine x_iconst hC dX0_areThere_138 (q := 139) rfl (v := (1)) (by decide) ?_
    refine x_goto hC dX0_areThere_139 (tgt := 143) rfl ?_
    exact x_zret hC hr rfl dX0_areThere_143 (Nat.le_of_ble_eq_true rfl) (Nat.le_of_ble_eq_true rfl) ⟨rfl, rfl⟩
  have hq1 : q < aI α 1 := Nat.not_le.mp (fun w => h7 (nI_le w (by omega)))
  refine x_iconst hC dX0_areThere_10 (q := 11) rfl (v := (0)) (by decide) ?_
  refine x_istore_n hC dX0_areThere_11 (q := 12) rfl rfl ?_
  refine x_loop (S := (fun x : Nat × Option Value × Option Value => ((0 : Nat), (0 : Nat), kmix σ gF, ([some (.ref (kA σ 0 0)), some (.ref aa), some (.int (nI q)), some (.int (nI x.1)), x.2.1, x.2.2] : xL), ([] : List Value)))) (Inv := fun x => x.1 ≤ 7) (μ := fun x => 7 - x.1) ?_ (0, _, _) (Nat.zero_le _)
  intro x hi2 ih2
  obtain ⟨p, y4, y5⟩ := x
  dsimp only at hi2 ih2 ⊢
  refine x_iload_n hC dX0_areThere_12 (q := 13) rfl rfl ?_
  refine x_bipush hC dX0_areThere_13 (q := 15) rfl (v := (7)) (by decide) ?_
  refine x_icmp_ge hC dX0_areThere_15 (q := 18) rfl (tgt := 109) rfl (fun h15 => ?_) (fun h15 => ?_)
  · have hp7 : p = 7 := by
      have := (nI_leI (a := 7) (b := p) (by decide) (by omega)).mp h15
      omega
    subst hp7
    refine x_iinc hC dX0_areThere_109 (q := 112) rfl rfl (v := nI (q + 1)) (nI_1 q) ?_
    refine x_goto hC dX0_areThere_112 (tgt := 2) rfl ?_
    exact ih (q + 1, _, _, _) (by (try dsimp only); omega) (by (try dsimp only); omega)
  have hp7 : p < 7 := Nat.not_le.mp (fun w => h15 (nI_le (a := 7) w (by omega)))
  refine x_iconst hC dX0_areThere_18 (q := 19) rfl (v := (-1)) (by decide) ?_
  refine x_istore hC dX0_areThere_19 (q := 21) rfl rfl ?_
  refine x_iconst hC dX0_areThere_21 (q := 22) rfl (v := (0)) (by decide) ?_
  refine x_istore hC dX0_areThere_22 (q := 24) rfl rfl ?_
  refine x_lveq (lv' := [some (.ref (kA σ 0 0)), some (.ref aa), some (.int (nI q)), some (.int (nI p)), some (.int (aAt σ q p 0)), some (.int (nI 0))]) (by rw [aAt_0]; rfl) ?_
  refine x_loop (S := (fun x : Nat => ((0 : Nat), (0 : Nat), kmix σ gF, ([some (.ref (kA σ 0 0)), some (.ref aa), some (.int (nI q)), some (.int (nI p)), some (.int (aAt σ q p x)), some (.int (nI x))] : xL), ([] : List Value)))) (Inv := fun x => x ≤ aI α 0) (μ := fun x => aI α 0 - x) ?_ 0 (Nat.zero_le _)
  intro c hi3 ih3
  dsimp only at hi3 ih3 ⊢
  refine x_iload hC dX0_areThere_24 (q := 26) rfl rfl ?_
  refine x_aloadr_n hC dX0_areThere_26 (q := 27) rfl rfl ?_
  refine x_get hC xf_X0_60_0 dX0_areThere_27 (q := 30) rfl (n := (101, 0)) hat rfl ?_
  refine x_icmp_ge hC dX0_areThere_30 (q := 33) rfl (tgt := 75) rfl (fun h30 => ?_) (fun h30 => ?_)
  · have hc1 : c = aI α 0 := by
      have := (nI_leI (a := aI α 0) (b := c) (by omega) (by omega)).mp h30
      omega
    subst hc1
    obtain ⟨hpl1, hpl2⟩ := hl.pl hpP hok (p := p) hq1
    refine x_aloadr_n hC dX0_areThere_75 (q := 76) rfl rfl ?_
    refine x_iload_n hC dX0_areThere_76 (q := 77) rfl rfl ?_
    refine x_iload_n hC dX0_areThere_77 (q := 78) rfl rfl ?_
    refine x_callV hC xv_X0_66 dX0_areThere_78 (q := 81) rfl rfl (m_X2_place h0 σ gF hw q (by rw [hl.2.1]; exact hq1) p (by omega)) (nn := (0, 0)) rfl rfl rfl (Nat.le_of_ble_eq_true rfl) ⟨(Nat.le_of_ble_eq_true rfl), (Nat.le_of_ble_eq_true rfl)⟩ ⟨(Nat.le_of_ble_eq_true rfl), (Nat.le_of_ble_eq_true rfl)⟩ (fun v g1 hp => ?_)
    rw [hpl1] at hp
    obtain ⟨rfl, hg1⟩ := hp
    replace hg1 := hg1.symm
    subst hg1
    refine x_iload hC dX0_areThere_81 (q := 83) rfl rfl ?_
    refine x_icmp_ne hC dX0_areThere_83 (q := 86) rfl (tgt := 101) rfl (fun h83 => ?_) (fun h83 => ?_)
    · exact absurd rfl h83
    refine x_iload hC dX0_areThere_86 (q := 88) rfl rfl ?_
    refine x_if_lt hC dX0_areThere_88 (q := 91) rfl (tgt := 103) rfl (fun h88 => ?_) (fun h88 => ?_)
    · refine x_iinc hC dX0_areThere_103 (q := 106) rfl rfl (v := nI (p + 1)) (nI_1 p) ?_
      refine x_goto hC dX0_areThere_106 (tgt := 12) rfl ?_
      exact ih2 (p + 1, _, _) (by (try dsimp only); omega) (by (try dsimp only); omega)
    refine x_iload_n hC dX0_areThere_91 (q := 92) rfl rfl ?_
    refine x_aloadr_n hC dX0_areThere_92 (q := 93) rfl rfl ?_
    refine x_get hC xf_X0_69_0 dX0_areThere_93 (q := 96) rfl (n := (101, 0)) hat rfl ?_
    refine x_iload_n hC dX0_areThere_96 (q := 97) rfl rfl ?_
    refine x_iald hC dX0_areThere_97 (q := 98) rfl (n := (104, 0)) har (j := q) rfl (by omega) (by decide) ?_
    rw [aF_lt hq1]
    refine x_icmp_lt hC dX0_areThere_98 (q := 101) rfl (tgt := 103) rfl (fun h98 => ?_) (fun h98 => ?_)
    · refine x_iinc hC dX0_areThere_103 (q := 106) rfl rfl (v := nI (p + 1)) (nI_1 p) ?_
      refine x_goto hC dX0_areThere_106 (tgt := 12) rfl ?_
      exact ih2 (p + 1, _, _) (by (try dsimp only); omega) (by (try dsimp only); omega)
    · exact absurd (nI_lt (hpl2 (Int32.not_lt.mp h88)) (by have := hro q; omega)) h98
  have hc1 : c < aI α 0 := Nat.not_le.mp (fun w => h30 (nI_le w (by omega)))
  refine x_aloadr_n hC dX0_areThere_33 (q := 34) rfl rfl ?_
  refine x_iload hC dX0_areThere_34 (q := 36) rfl rfl ?_
  refine x_iconst hC dX0_areThere_36 (q := 37) rfl (v := (2)) (by decide) ?_
  refine x_callV hC xv_X0_63 dX0_areThere_37 (q := 40) rfl rfl (m_X2_child_2 h0 σ gF hw c (by rw [hl.1]; exact hc1)) (nn := (0, 0)) rfl rfl rfl (Nat.le_of_ble_eq_true rfl) ⟨(Nat.le_of_ble_eq_true rfl), (Nat.le_of_ble_eq_true rfl)⟩ ⟨(Nat.le_of_ble_eq_true rfl), (Nat.le_of_ble_eq_true rfl)⟩ (fun v g1 hp => ?_)
  obtain ⟨rfl, hg1⟩ := hp
  replace hg1 := hg1.symm
  subst hg1
  refine x_iload_n hC dX0_areThere_40 (q := 41) rfl rfl ?_
  refine x_icmp_ne hC dX0_areThere_41 (q := 44) rfl (tgt := 69) rfl (fun h41 => ?_) (fun h41 => ?_)
  · have hup : aAt σ q p (c + 1) = aAt σ q p c := aAt_n (fun w => h41 ((hl.on hpP hok hc1 hq1 (by omega)).mpr w).1)
    refine x_iinc hC dX0_areThere_69 (q := 72) rfl rfl (v := nI (c + 1)) (nI_1 c) ?_
    refine x_goto hC dX0_areThere_72 (tgt := 24) rfl ?_
    refine x_lveq (lv' := [some (.ref (kA σ 0 0)), some (.ref aa), some (.int (nI q)), some (.int (nI p)), some (.int (aAt σ q p (c + 1))), some (.int (nI (c + 1)))]) (by rw [hup]; rfl) ?_
    exact ih3 (c + 1) (by (try dsimp only); omega) (by (try dsimp only); omega)
  refine x_aloadr_n hC dX0_areThere_44 (q := 45) rfl rfl ?_
  refine x_iload hC dX0_areThere_45 (q := 47) rfl rfl ?_
  refine x_iconst hC dX0_areThere_47 (q := 48) rfl (v := (3)) (by decide) ?_
  refine x_callV hC xv_X0_63 dX0_areThere_48 (q := 51) rfl rfl (m_X2_child_3 h0 σ gF hw c (by rw [hl.1]; exact hc1)) (nn := (0, 0)) rfl rfl rfl (Nat.le_of_ble_eq_true rfl) ⟨(Nat.le_of_ble_eq_true rfl), (Nat.le_of_ble_eq_true rfl)⟩ ⟨(Nat.le_of_ble_eq_true rfl), (Nat.le_of_ble_eq_true rfl)⟩ (fun v g1 hp => ?_)
  obtain ⟨rfl, hg1⟩ := hp
  replace hg1 := hg1.symm
  subst hg1
  refine x_iload_n hC dX0_areThere_51 (q := 52) rfl rfl ?_
  refine x_icmp_eq hC dX0_areThere_52 (q := 55) rfl (tgt := 58) rfl (fun h52 => ?_) (fun h52 => ?_)
  · have hon := (hl.on hpP hok hc1 hq1 (by omega)).mp ⟨h41, h52⟩
    have hup := (aAt_s hon).2
    rw [(aAt_s hon).1]
    refine x_iload hC dX0_areThere_58 (q := 60) rfl rfl ?_
    refine x_if_lt hC dX0_areThere_60 (q := 63) rfl (tgt := 65) rfl (fun h60 => ?_) (fun h60 => ?_)
    · refine x_iload hC dX0_areThere_65 (q := 67) rfl rfl ?_
      refine x_istore hC dX0_areThere_67 (q := 69) rfl rfl ?_
      refine x_iinc hC dX0_areThere_69 (q := 72) rfl rfl (v := nI (c + 1)) (nI_1 c) ?_
      refine x_goto hC dX0_areThere_72 (tgt := 24) rfl ?_
      refine x_lveq (lv' := [some (.ref (kA σ 0 0)), some (.ref aa), some (.int (nI q)), some (.int (nI p)), some (.int (aAt σ q p (c + 1))), some (.int (nI (c + 1)))]) (by rw [hup]; rfl) ?_
      exact ih3 (c + 1) (by (try dsimp only); omega) (by (try dsimp only); omega)
    · exact absurd (show (-1 : Int32) < 0 by decide) h60
  have hup : aAt σ q p (c + 1) = aAt σ q p c := aAt_n (fun w => h52 ((hl.on hpP hok hc1 hq1 (by omega)).mpr w).2)
  refine x_goto hC dX0_areThere_55 (tgt := 69) rfl ?_
  refine x_iinc hC dX0_areThere_69 (q := 72) rfl rfl (v := nI (c + 1)) (nI_1 c) ?_
  refine x_goto hC dX0_areThere_72 (tgt := 24) rfl ?_
  refine x_lveq (lv' := [some (.ref (kA σ 0 0)), some (.ref aa), some (.int (nI q)), some (.int (nI p)), some (.int (aAt σ q p (c + 1))), some (.int (nI (c + 1)))]) (by rw [hup]; rfl) ?_
  exact ih3 (c + 1) (by (try dsimp only); omega) (by (try dsimp only); omega)
