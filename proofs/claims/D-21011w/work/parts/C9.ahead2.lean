/-! the class is as it was seen -/
theorem kBr_eq {σ : KS} {c : Nat} {S T : Int32} (h1 : kBr σ c S) (h2 : kBr σ c T) : S = T := by
  have a := h1.2.2 T h2.1 h2.2.1
  have b := h2.2.2 S h1.1 h1.2.1
  refine b_ext (fun i hi => ?_)
  have a1 := a i hi
  have b1 := b i hi
  cases e : bt S i with
  | true => exact (a1 e).symm
  | false =>
    cases e2 : bt T i with
    | true => rw [b1 e2] at e; cases e
    | false => rfl
/-- a child is as it was seen -/
def DC (σ : KS) (V : Nat → Nat → Int32) (c : Nat) : Prop := V 10 c = kKil σ c ∧ V 11 c = iI (kI σ 33 c) ∧ V 12 c = iI (kI σ 34 c) ∧ V 15 c = (if iI (kI σ 34 c) = -1 then 1 else 0) ∧ (iI (kI σ 34 c) = -1 → V 13 c = 0) ∧ (¬ iI (kI σ 34 c) = -1 → kBr σ c (V 13 c))
theorem DW.km {gF : xG} {ad : Nat} {I : Nat → Int32} {V : Nat → Nat → Int32} {M : Nat → Nat → Nat → Int32} (h : DW gF ad I V M) (σ : KS) : DW (kmix σ gF) ad I V M := h.ext (fun n h1 _ => kmix_F σ gF n (by
  cases e : Nat.blt n.1 40 with
  | false => rfl
  | true => exact absurd (Nat.le_of_ble_eq_true e) (by omega)))
theorem m_bro {l : Launch} {s0 : State} {D : va_G} (h0 : x0 l s0 D) (σ : KS) (gF : xG) (hw : KW σ) {V : Nat → Nat → Int32} {c : Nat} (hc : c < kA σ 61 0) (hD : DC σ V c) : xMet l s0 D yX2_brothers cX2_brothers 6 (some .int) (xr 5 0 0 106) [.ref (kA σ 0 0), .int (nI c)] (kmix σ gF) (fun r g1 => r = some (.int (V 13 c)) ∧ g1 = kmix σ gF) := by
  obtain ⟨-, -, -, -, h5, h6⟩ := hD
  by_cases h : iI (kI σ 34 c) = -1
  · refine (m_X2_brothers_r h0 σ gF hw c hc h).post ?_
    rintro r g1 ⟨rfl, e⟩
    exact ⟨by rw [h5 h], e⟩
  · refine (m_X2_brothers_f h0 σ gF hw c hc h).post ?_
    rintro r g1 ⟨S, rfl, e1, e2⟩
    exact ⟨by rw [kBr_eq e1 (h6 h)], e2⟩

set_option maxHeartbeats 4000000 in
set_option maxRecDepth 100000 in
theorem m_X19_isSameChild {l : Launch} {s0 : State} {D : va_G} (h0 : x0 l s0 D) (σ : KS) (gF : xG) {ad : Nat} {I : Nat → Int32} {V : Nat → Nat → Int32} {M : Nat → Nat → Nat → Int32} (hD : DW gF ad I V M) (hw : KW σ) {c : Nat} (hc : c < kA σ 61 0) (hc6 : c < 6) (hS : DC σ V c) : xMet l s0 D yX19_isSameChild cX19_isSameChild 3 (some .boolean) (xr 6 0 0 160) [.ref ad, .ref (kA σ 0 0), .int (nI c)] (kmix σ gF) (fun r g1 => r = some (.int 1) ∧ g1 = kmix σ gF) := by
  obtain ⟨ra, rr, hd0, hd3, hd6, hdb, hdr, hdc, hdk, hdx, hdy⟩ := hD.km σ
  obtain ⟨e10, e11, e12, e15, -, -⟩ := id hS
  refine xMet.of h0 (by decide +kernel) rfl ?_
  intro zp ze zs zm za zb zf zc hC hr hnm
  refine x_aloadr_n hC dX19_isSameChild_0 (q := 1) rfl rfl ?_
  refine x_iload_n hC dX19_isSameChild_1 (q := 2) rfl rfl ?_
  refine x_iconst hC dX19_isSameChild_2 (q := 3) rfl (v := (2)) (by decide) ?_
  refine x_callV hC xv_X19_103 dX19_isSameChild_3 (q := 6) rfl rfl (m_X2_child_2 h0 σ gF hw c hc) (nn := (0, 0)) rfl rfl rfl (Nat.le_of_ble_eq_true rfl) ⟨(Nat.le_of_ble_eq_true rfl), (Nat.le_of_ble_eq_true rfl)⟩ ⟨(Nat.le_of_ble_eq_true rfl), (Nat.le_of_ble_eq_true rfl)⟩ (fun v g1 hp => ?_)
  obtain ⟨rfl, hg1⟩ := hp
  replace hg1 := hg1.symm
  subst hg1
  refine x_aloadr_n hC dX19_isSameChild_6 (q := 7) rfl rfl ?_
  refine x_get hC xf_X19_25_16 dX19_isSameChild_7 (q := 10) rfl (n := (120, 0)) hd0 rfl ?_
  refine x_iload_n hC dX19_isSameChild_10 (q := 11) rfl rfl ?_
  refine x_iald hC dX19_isSameChild_11 (q := 12) rfl (n := (126, 0)) (hd6 10 (by decide) (by decide)) (j := c) rfl hc6 (by decide) ?_
  rw [e10]
  refine x_icmp_ne hC dX19_isSameChild_12 (q := 15) rfl (tgt := 86) rfl (fun h12 => ?_) (fun h12 => ?_)
  · exact absurd rfl h12
  refine x_aloadr_n hC dX19_isSameChild_15 (q := 16) rfl rfl ?_
  refine x_iload_n hC dX19_isSameChild_16 (q := 17) rfl rfl ?_
  refine x_iconst hC dX19_isSameChild_17 (q := 18) rfl (v := (3)) (by decide) ?_
  refine x_callV hC xv_X19_103 dX19_isSameChild_18 (q := 21) rfl rfl (m_X2_child_3 h0 σ gF hw c hc) (nn := (0, 0)) rfl rfl rfl (Nat.le_of_ble_eq_true rfl) ⟨(Nat.le_of_ble_eq_true rfl), (Nat.le_of_ble_eq_true rfl)⟩ ⟨(Nat.le_of_ble_eq_true rfl), (Nat.le_of_ble_eq_true rfl)⟩ (fun v g1 hp => ?_)
  obtain ⟨rfl, hg1⟩ := hp
  replace hg1 := hg1.symm
  subst hg1
  refine x_aloadr_n hC dX19_isSameChild_21 (q := 22) rfl rfl ?_
  refine x_get hC xf_X19_28_16 dX19_isSameChild_22 (q := 25) rfl (n := (120, 0)) hd0 rfl ?_
  refine x_iload_n hC dX19_isSameChild_25 (q := 26) rfl rfl ?_
  refine x_iald hC dX19_isSameChild_26 (q := 27) rfl (n := (127, 0)) (hd6 11 (by decide) (by decide)) (j := c) rfl hc6 (by decide) ?_
  rw [e11]
  refine x_icmp_ne hC dX19_isSameChild_27 (q := 30) rfl (tgt := 86) rfl (fun h27 => ?_) (fun h27 => ?_)
  · exact absurd rfl h27
  refine x_aloadr_n hC dX19_isSameChild_30 (q := 31) rfl rfl ?_
  refine x_iload_n hC dX19_isSameChild_31 (q := 32) rfl rfl ?_
  refine x_iconst hC dX19_isSameChild_32 (q := 33) rfl (v := (4)) (by decide) ?_
  refine x_callV hC xv_X19_103 dX19_isSameChild_33 (q := 36) rfl rfl (m_X2_child_4 h0 σ gF hw c hc) (nn := (0, 0)) rfl rfl rfl (Nat.le_of_ble_eq_true rfl) ⟨(Nat.le_of_ble_eq_true rfl), (Nat.le_of_ble_eq_true rfl)⟩ ⟨(Nat.le_of_ble_eq_true rfl), (Nat.le_of_ble_eq_true rfl)⟩ (fun v g1 hp => ?_)
  obtain ⟨rfl, hg1⟩ := hp
  replace hg1 := hg1.symm
  subst hg1
  refine x_aloadr_n hC dX19_isSameChild_36 (q := 37) rfl rfl ?_
  refine x_get hC xf_X19_40_16 dX19_isSameChild_37 (q := 40) rfl (n := (120, 0)) hd0 rfl ?_
  refine x_iload_n hC dX19_isSameChild_40 (q := 41) rfl rfl ?_
  refine x_zald hC dX19_isSameChild_41 (q := 42) rfl (n := (131, 0)) hdb (j := c) rfl hc6 (by decide) ?_
  rw [e15]
  refine x_if_eq hC dX19_isSameChild_42 (q := 45) rfl (tgt := 49) rfl (fun h42 => ?_) (fun h42 => ?_)
  · have h34 : ¬ iI (kI σ 34 c) = -1 := fun w => absurd ((if_pos w).symm.trans h42) (by decide)
    rw [if_neg h34]
    refine x_iconst hC dX19_isSameChild_49 (q := 50) rfl (v := (1)) (by decide) ?_
    refine x_icmp_ne hC dX19_isSameChild_50 (q := 53) rfl (tgt := 86) rfl (fun h50 => ?_) (fun h50 => ?_)
    · exact absurd rfl h50
    refine x_aloadr_n hC dX19_isSameChild_53 (q := 54) rfl rfl ?_
    refine x_iload_n hC dX19_isSameChild_54 (q := 55) rfl rfl ?_
    refine x_iconst hC dX19_isSameChild_55 (q := 56) rfl (v := (5)) (by decide) ?_
    refine x_callV hC xv_X19_103 dX19_isSameChild_56 (q := 59) rfl rfl (m_X2_child_5 h0 σ gF hw c hc) (nn := (0, 0)) rfl rfl rfl (Nat.le_of_ble_eq_true rfl) ⟨(Nat.le_of_ble_eq_true rfl), (Nat.le_of_ble_eq_true rfl)⟩ ⟨(Nat.le_of_ble_eq_true rfl), (Nat.le_of_ble_eq_true rfl)⟩ (fun v g1 hp => ?_)
    obtain ⟨rfl, hg1⟩ := hp
    replace hg1 := hg1.symm
    subst hg1
    refine x_aloadr_n hC dX19_isSameChild_59 (q := 60) rfl rfl ?_
    refine x_get hC xf_X19_31_16 dX19_isSameChild_60 (q := 63) rfl (n := (120, 0)) hd0 rfl ?_
    refine x_iload_n hC dX19_isSameChild_63 (q := 64) rfl rfl ?_
    refine x_iald hC dX19_isSameChild_64 (q := 65) rfl (n := (128, 0)) (hd6 12 (by decide) (by decide)) (j := c) rfl hc6 (by decide) ?_
    rw [e12]
    refine x_icmp_ne hC dX19_isSameChild_65 (q := 68) rfl (tgt := 86) rfl (fun h65 => ?_) (fun h65 => ?_)
    · exact absurd rfl h65
    refine x_aloadr_n hC dX19_isSameChild_68 (q := 69) rfl rfl ?_
    refine x_iload_n hC dX19_isSameChild_69 (q := 70) rfl rfl ?_
    refine x_callV hC xv_X19_106 dX19_isSameChild_70 (q := 73) rfl rfl (m_bro h0 σ gF hw hc hS) (nn := (0, 0)) rfl rfl rfl (Nat.le_of_ble_eq_true rfl) ⟨(Nat.le_of_ble_eq_true rfl), (Nat.le_of_ble_eq_true rfl)⟩ ⟨(Nat.le_of_ble_eq_true rfl), (Nat.le_of_ble_eq_true rfl)⟩ (fun v g1 hp => ?_)
    obtain ⟨rfl, hg1⟩ := hp
    replace hg1 := hg1.symm
    subst hg1
    refine x_aloadr_n hC dX19_isSameChild_73 (q := 74) rfl rfl ?_
    refine x_get hC xf_X19_34_16 dX19_isSameChild_74 (q := 77) rfl (n := (120, 0)) hd0 rfl ?_
    refine x_iload_n hC dX19_isSameChild_77 (q := 78) rfl rfl ?_
    refine x_iald hC dX19_isSameChild_78 (q := 79) rfl (n := (129, 0)) (hd6 13 (by decide) (by decide)) (j := c) rfl hc6 (by decide) ?_
    refine x_icmp_ne hC dX19_isSameChild_79 (q := 82) rfl (tgt := 86) rfl (fun h79 => ?_) (fun h79 => ?_)
    · exact absurd rfl h79
    refine x_iconst hC dX19_isSameChild_82 (q := 83) rfl (v := (1)) (by decide) ?_
    refine x_goto hC dX19_isSameChild_83 (tgt := 87) rfl ?_
    exact x_zret hC hr rfl dX19_isSameChild_87 (Nat.le_of_ble_eq_true rfl) (Nat.le_of_ble_eq_true rfl) ⟨rfl, rfl⟩
  have h34 : iI (kI σ 34 c) = -1 := Classical.byContradiction (fun w => h42 (if_neg w))
  rw [if_pos h34]
  refine x_iconst hC dX19_isSameChild_45 (q := 46) rfl (v := (0)) (by decide) ?_
  refine x_goto hC dX19_isSameChild_46 (tgt := 50) rfl ?_
  refine x_icmp_ne hC dX19_isSameChild_50 (q := 53) rfl (tgt := 86) rfl (fun h50 => ?_) (fun h50 => ?_)
  · exact absurd rfl h50
  refine x_aloadr_n hC dX19_isSameChild_53 (q := 54) rfl rfl ?_
  refine x_iload_n hC dX19_isSameChild_54 (q := 55) rfl rfl ?_
  refine x_iconst hC dX19_isSameChild_55 (q := 56) rfl (v := (5)) (by decide) ?_
  refine x_callV hC xv_X19_103 dX19_isSameChild_56 (q := 59) rfl rfl (m_X2_child_5 h0 σ gF hw c hc) (nn := (0, 0)) rfl rfl rfl (Nat.le_of_ble_eq_true rfl) ⟨(Nat.le_of_ble_eq_true rfl), (Nat.le_of_ble_eq_true rfl)⟩ ⟨(Nat.le_of_ble_eq_true rfl), (Nat.le_of_ble_eq_true rfl)⟩ (fun v g1 hp => ?_)
  obtain ⟨rfl, hg1⟩ := hp
  replace hg1 := hg1.symm
  subst hg1
  refine x_aloadr_n hC dX19_isSameChild_59 (q := 60) rfl rfl ?_
  refine x_get hC xf_X19_31_16 dX19_isSameChild_60 (q := 63) rfl (n := (120, 0)) hd0 rfl ?_
  refine x_iload_n hC dX19_isSameChild_63 (q := 64) rfl rfl ?_
  refine x_iald hC dX19_isSameChild_64 (q := 65) rfl (n := (128, 0)) (hd6 12 (by decide) (by decide)) (j := c) rfl hc6 (by decide) ?_
  rw [e12]
  refine x_icmp_ne hC dX19_isSameChild_65 (q := 68) rfl (tgt := 86) rfl (fun h65 => ?_) (fun h65 => ?_)
  · exact absurd rfl h65
  refine x_aloadr_n hC dX19_isSameChild_68 (q := 69) rfl rfl ?_
  refine x_iload_n hC dX19_isSameChild_69 (q := 70) rfl rfl ?_
  refine x_callV hC xv_X19_106 dX19_isSameChild_70 (q := 73) rfl rfl (m_bro h0 σ gF hw hc hS) (nn := (0, 0)) rfl rfl rfl (Nat.le_of_ble_eq_true rfl) ⟨(Nat.le_of_ble_eq_true rfl), (Nat.le_of_ble_eq_true rfl)⟩ ⟨(Nat.le_of_ble_eq_true rfl), (Nat.le_of_ble_eq_true rfl)⟩ (fun v g1 hp => ?_)
  obtain ⟨rfl, hg1⟩ := hp
  replace hg1 := hg1.symm
  subst hg1
  refine x_aloadr_n hC dX19_isSameChild_73 (q := 74) rfl rfl ?_
  refine x_get hC xf_X19_34_16 dX19_isSameChild_74 (q := 77) rfl (n := (120, 0)) hd0 rfl ?_
  refine x_iload_n hC dX19_isSameChild_77 (q := 78) rfl rfl ?_
  refine x_iald hC dX19_isSameChild_78 (q := 79) rfl (n := (129, 0)) (hd6 13 (by decide) (by decide)) (j := c) rfl hc6 (by decide) ?_
  refine x_icmp_ne hC dX19_isSameChild_79 (q := 82) rfl (tgt := 86) rfl (fun h79 => ?_) (fun h79 => ?_)
  · exact absurd rfl h79
  refine x_iconst hC dX19_isSameChild_82 (q := 83) rfl (v := (1)) (by decide) ?_
  refine x_goto hC dX19_isSameChild_83 (tgt := 87) rfl ?_
  exact x_zret hC hr rfl dX19_isSameChild_87 (Nat.le_of_ble_eq_true rfl) (Nat.le_of_ble_eq_true rfl) ⟨rfl, rfl⟩

set_option maxHeartbeats 4000000 in
set_option maxRecDepth 100000 in
theorem m_X19_areElder {l : Launch} {s0 : State} {D : va_G} (h0 : x0 l s0 D) (σ : KS) (gF : xG) {ad : Nat} {I : Nat → Int32} {V : Nat → Nat → Int32} {M : Nat → Nat → Nat → Int32} (hD : DW gF ad I V M) (hw : KW σ) {R : Nat} (hR : R ≤ kA σ 63 0) (hR40 : R ≤ 40) (hI1 : I 1 = nI R) (hM : ∀ k, k < R → ∀ j, j < 4 → M 18 k j = iI (kV σ 2 k j)) : xMet l s0 D yX19_areElder cX19_areElder 5 (some .boolean) (xr 4 0 0 120) [.ref ad, .ref (kA σ 0 0)] (kmix σ gF) (fun r g1 => r = some (.int 1) ∧ g1 = kmix σ gF) := by
  obtain ⟨ra, rr, hd0, hd3, hd6, hdb, hdr, hdc, hdk, hdx, hdy⟩ := hD.km σ
  refine xMet.of h0 (by decide +kernel) rfl ?_
  intro zp ze zs zm za zb zf zc hC hr hnm
  refine x_iconst hC dX19_areElder_0 (q := 1) rfl (v := (1)) (by decide) ?_
  refine x_istore_n hC dX19_areElder_1 (q := 2) rfl rfl ?_
  refine x_iconst hC dX19_areElder_2 (q := 3) rfl (v := (0)) (by decide) ?_
  refine x_istore_n hC dX19_areElder_3 (q := 4) rfl rfl ?_
  refine x_loop (S := (fun x : Nat × Option Value => ((0 : Nat), (0 : Nat), kmix σ gF, ([some (.ref ad), some (.ref (kA σ 0 0)), some (.int 1), some (.int (nI x.1)), x.2] : xL), ([] : List Value)))) (Inv := fun x => x.1 ≤ R) (μ := fun x => R - x.1) ?_ (0, none) (Nat.zero_le _)
  intro x hi ih
  obtain ⟨k, y4⟩ := x
  dsimp only at hi ih ⊢
  refine x_iload_n hC dX19_areElder_4 (q := 5) rfl rfl ?_
  refine x_aloadr_n hC dX19_areElder_5 (q := 6) rfl rfl ?_
  refine x_get hC xf_X19_71_16 dX19_areElder_6 (q := 9) rfl (n := (120, 0)) hd0 rfl ?_
  rw [hI1]
  refine x_icmp_ge hC dX19_areElder_9 (q := 12) rfl (tgt := 62) rfl (fun h9 => ?_) (fun h9 => ?_)
  · have hk1 := h9
    refine x_iload_n hC dX19_areElder_62 (q := 63) rfl rfl ?_
    exact x_zret hC hr rfl dX19_areElder_63 (Nat.le_of_ble_eq_true rfl) (Nat.le_of_ble_eq_true rfl) ⟨rfl, rfl⟩
  have hk1 : k < R := Nat.not_le.mp (fun w => h9 (nI_le w (by omega)))
  refine x_iconst hC dX19_areElder_12 (q := 13) rfl (v := (0)) (by decide) ?_
  refine x_istore hC dX19_areElder_13 (q := 15) rfl rfl ?_
  refine x_loop (S := (fun x : Nat => ((0 : Nat), (0 : Nat), kmix σ gF, ([some (.ref ad), some (.ref (kA σ 0 0)), some (.int 1), some (.int (nI k)), some (.int (nI x))] : xL), ([] : List Value)))) (Inv := fun x => x ≤ 4) (μ := fun x => 4 - x) ?_ 0 (Nat.zero_le _)
  intro j hj ih2
  dsimp only at hj ih2 ⊢
  refine x_iload hC dX19_areElder_15 (q := 17) rfl rfl ?_
  refine x_iconst hC dX19_areElder_17 (q := 18) rfl (v := (4)) (by decide) ?_
  refine x_icmp_ge hC dX19_areElder_18 (q := 21) rfl (tgt := 56) rfl (fun h18 => ?_) (fun h18 => ?_)
  · have hj1 := h18
    refine x_iinc hC dX19_areElder_56 (q := 59) rfl rfl (v := nI (k + 1)) (nI_1 k) ?_
    refine x_goto hC dX19_areElder_59 (tgt := 4) rfl ?_
    exact ih (k + 1, _) (by (try dsimp only); omega) (by (try dsimp only); omega)
  have hj1 : j < 4 := Nat.not_le.mp (fun w => h18 (nI_le (a := 4) w (by omega)))
  refine x_iload_n hC dX19_areElder_21 (q := 22) rfl rfl ?_
  refine x_if_eq hC dX19_areElder_22 (q := 25) rfl (tgt := 48) rfl (fun h22 => ?_) (fun h22 => ?_)
  · exact absurd h22 (by decide)
  refine x_aloadr_n hC dX19_areElder_25 (q := 26) rfl rfl ?_
  refine x_iload_n hC dX19_areElder_26 (q := 27) rfl rfl ?_
  refine x_iload hC dX19_areElder_27 (q := 29) rfl rfl ?_
  refine x_callV hC xv_X19_88 dX19_areElder_29 (q := 32) rfl rfl (m_X2_kept h0 σ gF hw k j (by omega) hj1) (nn := (0, 0)) rfl rfl rfl (Nat.le_of_ble_eq_true rfl) ⟨(Nat.le_of_ble_eq_true rfl), (Nat.le_of_ble_eq_true rfl)⟩ ⟨(Nat.le_of_ble_eq_true rfl), (Nat.le_of_ble_eq_true rfl)⟩ (fun v g1 hp => ?_)
  obtain ⟨rfl, hg1⟩ := hp
  replace hg1 := hg1.symm
  subst hg1
  refine x_aloadr_n hC dX19_areElder_32 (q := 33) rfl rfl ?_
  refine x_get hC xf_X19_52_16 dX19_areElder_33 (q := 36) rfl (n := (120, 0)) hd0 rfl ?_
  refine x_iload_n hC dX19_areElder_36 (q := 37) rfl rfl ?_
  refine x_aald hC dX19_areElder_37 (q := 38) rfl (n := (136, 0)) hdk (j := k) rfl (by omega) (by decide) rfl ?_
  refine x_iload hC dX19_areElder_38 (q := 40) rfl rfl ?_
  refine x_iald hC dX19_areElder_40 (q := 41) rfl (n := (137, k)) (hdy k (by omega)) (j := j) rfl hj1 (by decide) ?_
  rw [hM k hk1 j hj1]
  refine x_icmp_ne hC dX19_areElder_41 (q := 44) rfl (tgt := 48) rfl (fun h41 => ?_) (fun h41 => ?_)
  · exact absurd rfl h41
  refine x_iconst hC dX19_areElder_44 (q := 45) rfl (v := (1)) (by decide) ?_
  refine x_goto hC dX19_areElder_45 (tgt := 49) rfl ?_
  refine x_istore_n hC dX19_areElder_49 (q := 50) rfl rfl ?_
  refine x_iinc hC dX19_areElder_50 (q := 53) rfl rfl (v := nI (j + 1)) (nI_1 j) ?_
  refine x_goto hC dX19_areElder_53 (tgt := 15) rfl ?_
  exact ih2 (j + 1) (by (try dsimp only); omega) (by (try dsimp only); omega)
