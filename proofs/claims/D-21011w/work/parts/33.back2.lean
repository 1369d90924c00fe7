/-! isBack: the walk -/
/-- the addresses of one state, the rest of another -/
def kOn (σ τ : KS) : KS := (τ.1, σ.2.1, τ.2.2)
theorem kOn_eq {σ τ : KS} (h : kA τ = kA σ) : kOn σ τ = τ := by
  have e : τ.2.1 = σ.2.1 := h
  unfold kOn
  rw [← e]
/-- the kiln of a number, if there is one -/
def kKx (σ : KS) (x : Int32) : Option Nat := if 0 ≤ x.toInt ∧ x.toInt < kA σ 62 0 then some x.toInt.toNat else none
theorem nI_toNat {x : Int32} (h : 0 ≤ x.toInt) : nI x.toInt.toNat = x := by
  have e := iI_self x
  rw [← iI_nat, Int.toNat_of_nonneg h]; exact e
theorem m_kilnOf_o {l : Launch} {s0 : State} {D : va_G} (h0 : x0 l s0 D) (σ : KS) (gF : xG) (hw : KW σ) (x : Int32) : xMet l s0 D yX2_kilnOf cX2_kilnOf 2 (some (.object "KilnBench$Kiln")) (xr 4 0 0 85) [.ref (kA σ 0 0), .int x] (kmix σ gF) (fun r g1 => r = some (va_rf ((kKx σ x).map (kA σ 21))) ∧ g1 = kmix σ gF) := by
  unfold kKx
  by_cases h : 0 ≤ x.toInt ∧ x.toInt < kA σ 62 0
  · rw [if_pos h]
    have := m_X2_kilnOf h0 σ gF hw x.toInt.toNat (by omega)
    rw [nI_toNat h.1] at this
    exact this
  · rw [if_neg h]
    exact m_X2_kilnOf_out h0 σ gF hw x (by omega)
theorem m_goesIn_o {l : Launch} {s0 : State} {D : va_G} (h0 : x0 l s0 D) (σ : KS) (gF : xG) (ch : Nat) (hc : ch < kA σ 61 0) (x y : Int32) (hy : 0 ≤ x.toInt → x.toInt < kA σ 62 0 → ∃ pl : Nat, pl < 6 ∧ y = nI pl) : xMet l s0 D yX8_goesIn cX8_goesIn 3 none (xr 0 0 0 0) [.ref (kA σ 20 ch), va_rf ((kKx σ x).map (kA σ 21)), .int y] (kmix σ gF) (fun r g1 => r = none ∧ g1 = kmix (kGi σ ch x y) gF) := by
  unfold kKx kGi
  by_cases h : 0 ≤ x.toInt ∧ x.toInt < kA σ 62 0
  · rw [if_pos h, if_pos h]
    obtain ⟨pl, p1, rfl⟩ := hy h.1 h.2
    have e : (nI pl).toInt = pl := nI_toInt (by omega)
    rw [e, Int.toNat_natCast]
    exact m_X8_goesIn_s h0 σ gF ch hc (by omega) p1
  · rw [if_neg h, if_neg h]
    exact m_X8_goesIn_n h0 σ gF ch hc y

theorem m_childAt {l : Launch} {s0 : State} {D : va_G} (h0 : x0 l s0 D) (σ : KS) (gF : xG) (hc : kA σ 61 0 ≤ kA σ 71 0 ∧ kA σ 71 0 < 1048576) (i : Nat) (hi : i < kA σ 61 0) : xMet l s0 D yJ3_get cJ3_get 2 (some (.object "java/lang/Object")) (xr 2 0 0 43) [.ref (kA σ 4 0), .int (nI i)] (kmix σ gF) (fun r g1 => r = some (.ref (kA σ 20 i)) ∧ g1 = kmix σ gF) := by
  have := m_J3_get h0 (kmix σ gF) (n := (4, 0)) (nd := (5, 0)) rfl (kg_5 (by omega)) (j := i) rfl (sz := kA σ 61 0) rfl hi hc.1 (by omega)
  rw [if_pos hi] at this
  exact this
theorem m_kilnAt {l : Launch} {s0 : State} {D : va_G} (h0 : x0 l s0 D) (σ : KS) (gF : xG) (hc : kA σ 62 0 ≤ kA σ 72 0 ∧ kA σ 72 0 < 1048576) (i : Nat) (hi : i < kA σ 62 0) : xMet l s0 D yJ3_get cJ3_get 2 (some (.object "java/lang/Object")) (xr 2 0 0 43) [.ref (kA σ 6 0), .int (nI i)] (kmix σ gF) (fun r g1 => r = some (.ref (kA σ 21 i)) ∧ g1 = kmix σ gF) := by
  have := m_J3_get h0 (kmix σ gF) (n := (6, 0)) (nd := (7, 0)) rfl (kg_7 (by omega)) (j := i) rfl (sz := kA σ 62 0) rfl hi hc.1 (by omega)
  rw [if_pos hi] at this
  exact this

theorem kBk_V {σ : KS} (h : KV σ) (wk fu : Int) : KV (kIs (kIs σ 3 0 wk) 7 0 fu) := by
  refine ⟨h.1, fun c q hc hq => ?_⟩
  obtain ⟨pl, p1, p2⟩ := h.2 c q hc hq
  refine ⟨pl, p1, ?_⟩
  simp only [kI_kIs]
  rw [if_neg (fun q => absurd q.1 (by decide)), if_neg (fun q => absurd q.1 (by decide))]
  exact p2

set_option maxHeartbeats 4000000 in
set_option maxRecDepth 100000 in
theorem m_X20_isBack {l : Launch} {s0 : State} {D : va_G} (h0 : x0 l s0 D) (σ : KS) (gF : xG) (hv : KV σ) {nn nw nh : xN} (hb1 : Nat.blt nn.1 40 = false) (hb2 : Nat.blt nw.1 40 = false) (hb3 : Nat.blt nh.1 40 = false) {a aw ah : Nat}  {wk fu : Int} {w ht : Nat → Int32} (h45 : gF nn = some (a, xO 17 [.int (iI wk), .int (iI fu), .ref aw, .ref ah, .ref (kA σ 0 0)])) (h46 : gF nw = some (aw, xAi .int 40 w)) (h47 : gF nh = some (ah, xAi .int 3 ht)) (hk : kWok w (kA σ 61 0) (kA σ 62 0)) : xMet l s0 D yX20_isBack cX20_isBack 3 none (xr 5 0 0 106) [.ref a] (kmix σ gF) (fun r g1 => r = none ∧ g1 = kmix (kBack σ w ht wk fu) gF) := by
  have hw := hv.1
  refine xMet.of h0 (by decide +kernel) rfl ?_
  intro p e s m args below meth c hC hr hnm
  refine x_aloadr_n hC dX20_isBack_0 (q := 1) rfl rfl ?_
  refine x_get hC xf_X20_3_17 dX20_isBack_1 (q := 4) rfl (n := nn) ((kmix_F _ _ _ hb1).trans h45) rfl ?_
  refine x_aloadr_n hC dX20_isBack_4 (q := 5) rfl rfl ?_
  refine x_get hC xf_X20_19_17 dX20_isBack_5 (q := 8) rfl (n := nn) ((kmix_F _ _ _ hb1).trans h45) rfl ?_
  refine x_put hC (n := (0, 0)) xf_X20_15_1 xd_1 rfl dX20_isBack_8 (q := 11) rfl rfl rfl rfl rfl ?_
  refine x_geq (kf_week (z := wk) rfl) ?_
  refine x_aloadr_n hC dX20_isBack_11 (q := 12) rfl rfl ?_
  refine x_get hC xf_X20_3_17 dX20_isBack_12 (q := 15) rfl (n := nn) ((kmix_F _ _ _ hb1).trans h45) rfl ?_
  refine x_get hC xf_X20_22_1 dX20_isBack_15 (q := 18) rfl (n := (0, 0)) rfl rfl ?_
  refine x_aloadr_n hC dX20_isBack_18 (q := 19) rfl rfl ?_
  refine x_get hC xf_X20_31_17 dX20_isBack_19 (q := 22) rfl (n := nn) ((kmix_F _ _ _ hb1).trans h45) rfl ?_
  refine x_put hC (n := (3, 0)) xf_X20_26_2 xd_2 rfl dX20_isBack_22 (q := 25) rfl rfl rfl rfl rfl ?_
  refine x_geq (kf_fuel (z := fu) rfl) ?_
  refine x_iconst hC dX20_isBack_25 (q := 26) rfl (v := (0)) (by decide) ?_
  refine x_istore_n hC dX20_isBack_26 (q := 27) rfl rfl ?_
  refine x_geq (g' := kmix (kOn σ (kOutN (kIs (kIs σ 3 0 wk) 7 0 fu) 0)) gF) (by rw [kOn_eq (by rw [kA_kOutN]; rfl)]; rfl) ?_
  refine x_lvle (lv' := [some (.ref a), some (.int (nI 0)), none]) (by repeat' constructor) ?_
  refine x_loop (S := (fun i => ((0 : Nat), (0 : Nat), kmix (kOn σ (kOutN (kIs (kIs σ 3 0 wk) 7 0 fu) i)) gF, ([some (.ref a), some (.int (nI i)), none] : xL), ([] : List Value)))) (Inv := fun i => i ≤ (kA σ 61 0)) (μ := fun i => (kA σ 61 0) - i) ?_ 0 (Nat.zero_le _)
  intro i hi ih
  dsimp only at ih ⊢
  refine x_iload_n hC dX20_isBack_27 (q := 28) rfl rfl ?_
  refine x_aloadr_n hC dX20_isBack_28 (q := 29) rfl rfl ?_
  refine x_get hC xf_X20_3_17 dX20_isBack_29 (q := 32) rfl (n := nn) ((kmix_F _ _ _ hb1).trans h45) rfl ?_
  refine x_callVN hC xv_X20_39 dX20_isBack_32 (q := 35) rfl rfl (m_X2_children h0 (kOn σ (kOutN (kIs (kIs σ 3 0 wk) 7 0 fu) i)) _) (nn := (0, 0)) rfl rfl rfl (Nat.le_of_ble_eq_true rfl) ⟨(Nat.le_of_ble_eq_true rfl), (Nat.le_of_ble_eq_true rfl)⟩ ⟨(Nat.le_of_ble_eq_true rfl), (Nat.le_of_ble_eq_true rfl)⟩ (fun v g1 hp => ?_)
  obtain ⟨rfl, hg1⟩ := hp
  replace hg1 := hg1.symm
  subst hg1
  refine x_icmp_ge hC dX20_isBack_35 (q := 38) rfl (tgt := 64) rfl (fun h35 => ?_) (fun h35 => ?_)
  · have hi3 : i = (kA σ 61 0) := by
      have := hw.1
      have h2 : nI (kA σ 61 0) ≤ nI i := h35
      have := (nI_leI (by omega) (by omega)).mp h2
      omega
    rw [hi3]
    refine x_iconst hC dX20_isBack_64 (q := 65) rfl (v := (0)) (by decide) ?_
    refine x_istore_n hC dX20_isBack_65 (q := 66) rfl rfl ?_
    refine x_geq (g' := kmix (kOn σ (kInN w (kOutN (kIs (kIs σ 3 0 wk) 7 0 fu) (kA σ 61 0)) 0)) gF) (by rw [kOn_eq (by rw [kA_kOutN]; rfl), kOn_eq (by rw [kA_kInN, kA_kOutN]; rfl)]; rfl) ?_
    refine x_lvle (lv' := [some (.ref a), some (.int (nI 0)), none]) (by repeat' constructor) ?_
    refine x_loop (S := (fun i => ((0 : Nat), (0 : Nat), kmix (kOn σ (kInN w (kOutN (kIs (kIs σ 3 0 wk) 7 0 fu) (kA σ 61 0)) i)) gF, ([some (.ref a), some (.int (nI i)), none] : xL), ([] : List Value)))) (Inv := fun i => i ≤ (kA σ 61 0)) (μ := fun i => (kA σ 61 0) - i) ?_ 0 (Nat.zero_le _)
    intro i hi ih
    dsimp only at ih ⊢
    refine x_iload_n hC dX20_isBack_66 (q := 67) rfl rfl ?_
    refine x_aloadr_n hC dX20_isBack_67 (q := 68) rfl rfl ?_
    refine x_get hC xf_X20_3_17 dX20_isBack_68 (q := 71) rfl (n := nn) ((kmix_F _ _ _ hb1).trans h45) rfl ?_
    refine x_callVN hC xv_X20_39 dX20_isBack_71 (q := 74) rfl rfl (m_X2_children h0 (kOn σ (kInN w (kOutN (kIs (kIs σ 3 0 wk) 7 0 fu) (kA σ 61 0)) i)) _) (nn := (0, 0)) rfl rfl rfl (Nat.le_of_ble_eq_true rfl) ⟨(Nat.le_of_ble_eq_true rfl), (Nat.le_of_ble_eq_true rfl)⟩ ⟨(Nat.le_of_ble_eq_true rfl), (Nat.le_of_ble_eq_true rfl)⟩ (fun v g1 hp => ?_)
    obtain ⟨rfl, hg1⟩ := hp
    replace hg1 := hg1.symm
    subst hg1
    refine x_icmp_ge hC dX20_isBack_74 (q := 77) rfl (tgt := 181) rfl (fun h74 => ?_) (fun h74 => ?_)
    · have hi3 : i = (kA σ 61 0) := by
        have := hw.1
        have h2 : nI (kA σ 61 0) ≤ nI i := h74
        have := (nI_leI (by omega) (by omega)).mp h2
        omega
      rw [hi3]
      refine x_iconst hC dX20_isBack_181 (q := 182) rfl (v := (0)) (by decide) ?_
      refine x_istore_n hC dX20_isBack_182 (q := 183) rfl rfl ?_
      refine x_geq (g' := kmix (kOn σ (kHtN ht (kInN w (kOutN (kIs (kIs σ 3 0 wk) 7 0 fu) (kA σ 61 0)) (kA σ 61 0)) 0)) gF) (by rw [kOn_eq (by rw [kA_kInN, kA_kOutN]; rfl), kOn_eq (by rw [kA_kHtN, kA_kInN, kA_kOutN]; rfl)]; rfl) ?_
      refine x_lvle (lv' := [some (.ref a), some (.int (nI 0)), none]) (by repeat' constructor) ?_
      refine x_loop (S := (fun i => ((0 : Nat), (0 : Nat), kmix (kOn σ (kHtN ht (kInN w (kOutN (kIs (kIs σ 3 0 wk) 7 0 fu) (kA σ 61 0)) (kA σ 61 0)) i)) gF, ([some (.ref a), some (.int (nI i)), none] : xL), ([] : List Value)))) (Inv := fun i => i ≤ (kA σ 62 0)) (μ := fun i => (kA σ 62 0) - i) ?_ 0 (Nat.zero_le _)
      intro i hi ih
      dsimp only at ih ⊢
      refine x_iload_n hC dX20_isBack_183 (q := 184) rfl rfl ?_
      refine x_aloadr_n hC dX20_isBack_184 (q := 185) rfl rfl ?_
      refine x_get hC xf_X20_3_17 dX20_isBack_185 (q := 188) rfl (n := nn) ((kmix_F _ _ _ hb1).trans h45) rfl ?_
      refine x_callVN hC xv_X20_70 dX20_isBack_188 (q := 191) rfl rfl (m_X2_kilns h0 (kOn σ (kHtN ht (kInN w (kOutN (kIs (kIs σ 3 0 wk) 7 0 fu) (kA σ 61 0)) (kA σ 61 0)) i)) _) (nn := (0, 0)) rfl rfl rfl (Nat.le_of_ble_eq_true rfl) ⟨(Nat.le_of_ble_eq_true rfl), (Nat.le_of_ble_eq_true rfl)⟩ ⟨(Nat.le_of_ble_eq_true rfl), (Nat.le_of_ble_eq_true rfl)⟩ (fun v g1 hp => ?_)
      obtain ⟨rfl, hg1⟩ := hp
      replace hg1 := hg1.symm
      subst hg1
      refine x_icmp_ge hC dX20_isBack_191 (q := 194) rfl (tgt := 226) rfl (fun h191 => ?_) (fun h191 => ?_)
      · have hi3 : i = (kA σ 62 0) := by
          have := hw.2.1
          have h2 : nI (kA σ 62 0) ≤ nI i := h191
          have := (nI_leI (by omega) (by omega)).mp h2
          omega
        rw [hi3]
        exact x_vret hC hr dX20_isBack_226 (Nat.le_of_ble_eq_true rfl) (Nat.le_of_ble_eq_true rfl) ⟨rfl, by rw [kOn_eq (by rw [kA_kHtN, kA_kInN, kA_kOutN]; rfl)]; rfl⟩
      have hi2 : i < (kA σ 62 0) := Nat.lt_of_not_le (fun q => h191 (show nI (kA σ 62 0) ≤ nI i from nI_le q (by have := hw.2.1; omega)))
      have hn8 := hw.2.1
      refine x_aloadr_n hC dX20_isBack_194 (q := 195) rfl rfl ?_
      refine x_get hC xf_X20_3_17 dX20_isBack_195 (q := 198) rfl (n := nn) ((kmix_F _ _ _ hb1).trans h45) rfl ?_
      refine x_get hC xf_X20_22_1 dX20_isBack_198 (q := 201) rfl (n := (0, 0)) rfl rfl ?_
      refine x_get hC xf_X20_73_2 dX20_isBack_201 (q := 204) rfl (n := (3, 0)) rfl rfl ?_
      refine x_iload_n hC dX20_isBack_204 (q := 205) rfl rfl ?_
      refine x_callV hC xv_X20_46 dX20_isBack_205 (q := 208) rfl rfl (m_kilnAt h0 (kOn σ (kHtN ht (kInN w (kOutN (kIs (kIs σ 3 0 wk) 7 0 fu) (kA σ 61 0)) (kA σ 61 0)) i)) _ hw.c62 i hi2) (nn := (6, 0)) rfl rfl rfl (Nat.le_of_ble_eq_true rfl) ⟨(Nat.le_of_ble_eq_true rfl), (Nat.le_of_ble_eq_true rfl)⟩ ⟨(Nat.le_of_ble_eq_true rfl), (Nat.le_of_ble_eq_true rfl)⟩ (fun v g1 hp => ?_)
      obtain ⟨rfl, hg1⟩ := hp
      replace hg1 := hg1.symm
      subst hg1
      refine x_castS hC q1640 rfl dX20_isBack_208 (q := 211) rfl (n := (21, i)) (kg_21 (σ := (kOn σ (kHtN ht (kInN w (kOutN (kIs (kIs σ 3 0 wk) 7 0 fu) (kA σ 61 0)) (kA σ 61 0)) i))) i hi2) ?_
      refine x_aloadr_n hC dX20_isBack_211 (q := 212) rfl rfl ?_
      refine x_get hC xf_X20_36_17 dX20_isBack_212 (q := 215) rfl (n := nn) ((kmix_F _ _ _ hb1).trans h45) rfl ?_
      refine x_iload_n hC dX20_isBack_215 (q := 216) rfl rfl ?_
      refine x_iald hC dX20_isBack_216 (q := 217) rfl (n := nh) ((kmix_F _ _ _ hb3).trans h47) rfl (by omega) (by decide) ?_
      refine x_put hC (n := (21, i)) xf_X20_77_6 xd_6 rfl dX20_isBack_217 (q := 220) rfl (kg_21 (σ := (kOn σ (kHtN ht (kInN w (kOutN (kIs (kIs σ 3 0 wk) 7 0 fu) (kA σ 61 0)) (kA σ 61 0)) i))) i hi2) rfl rfl rfl ?_
      refine x_geq (kf_heat (z := (ht i).toInt) (iI_self _).symm hi2) ?_
      refine x_iinc hC dX20_isBack_220 (q := 223) rfl rfl (v := nI (i + 1)) (nI_1 i) ?_
      refine x_goto hC dX20_isBack_223 (tgt := 183) rfl ?_
      refine x_geq (g' := kmix (kOn σ (kHtN ht (kInN w (kOutN (kIs (kIs σ 3 0 wk) 7 0 fu) (kA σ 61 0)) (kA σ 61 0)) (i + 1))) gF) (by rw [kOn_eq (by rw [kA_kHtN, kA_kInN, kA_kOutN]; rfl), kOn_eq (by rw [kA_kHtN, kA_kInN, kA_kOutN]; rfl)]; rfl) ?_
      refine x_lvle (lv' := [some (.ref a), some (.int (nI (i + 1))), none]) (by repeat' constructor) ?_
      exact ih (i + 1) (by omega) (by omega)
    have hi2 : i < (kA σ 61 0) := Nat.lt_of_not_le (fun q => h74 (show nI (kA σ 61 0) ≤ nI i from nI_le q (by have := hw.1; omega)))
    have hn8 := hw.1
    refine x_aloadr_n hC dX20_isBack_77 (q := 78) rfl rfl ?_
    refine x_get hC xf_X20_3_17 dX20_isBack_78 (q := 81) rfl (n := nn) ((kmix_F _ _ _ hb1).trans h45) rfl ?_
    refine x_get hC xf_X20_22_1 dX20_isBack_81 (q := 84) rfl (n := (0, 0)) rfl rfl ?_
    refine x_get hC xf_X20_43_2 dX20_isBack_84 (q := 87) rfl (n := (3, 0)) rfl rfl ?_
    refine x_iload_n hC dX20_isBack_87 (q := 88) rfl rfl ?_
    refine x_callV hC xv_X20_46 dX20_isBack_88 (q := 91) rfl rfl (m_childAt h0 (kOn σ (kInN w (kOutN (kIs (kIs σ 3 0 wk) 7 0 fu) (kA σ 61 0)) i)) _ hw.c61 i hi2) (nn := (4, 0)) rfl rfl rfl (Nat.le_of_ble_eq_true rfl) ⟨(Nat.le_of_ble_eq_true rfl), (Nat.le_of_ble_eq_true rfl)⟩ ⟨(Nat.le_of_ble_eq_true rfl), (Nat.le_of_ble_eq_true rfl)⟩ (fun v g1 hp => ?_)
    obtain ⟨rfl, hg1⟩ := hp
    replace hg1 := hg1.symm
    subst hg1
    refine x_castS hC q1637 rfl dX20_isBack_91 (q := 94) rfl (n := (20, i)) (kg_20 (σ := (kOn σ (kInN w (kOutN (kIs (kIs σ 3 0 wk) 7 0 fu) (kA σ 61 0)) i))) i hi2) ?_
    refine x_astorer_n hC dX20_isBack_94 (q := 95) rfl rfl ?_
    refine x_aloadr_n hC dX20_isBack_95 (q := 96) rfl rfl ?_
    refine x_aloadr_n hC dX20_isBack_96 (q := 97) rfl rfl ?_
    refine x_get hC xf_X20_3_17 dX20_isBack_97 (q := 100) rfl (n := nn) ((kmix_F _ _ _ hb1).trans h45) rfl ?_
    refine x_aloadr_n hC dX20_isBack_100 (q := 101) rfl rfl ?_
    refine x_get hC xf_X20_32_17 dX20_isBack_101 (q := 104) rfl (n := nn) ((kmix_F _ _ _ hb1).trans h45) rfl ?_
    refine x_iconst hC dX20_isBack_104 (q := 105) rfl (v := (5)) (by decide) ?_
    refine x_iload_n hC dX20_isBack_105 (q := 106) rfl rfl ?_
    refine x_imul hC dX20_isBack_106 (q := 107) rfl ?_
    refine x_iald hC dX20_isBack_107 (q := 108) rfl (n := nw) ((kmix_F _ _ _ hb2).trans h46) (xi50 i) (by omega) (by decide) ?_
    refine x_callVN hC xv_X20_83 dX20_isBack_108 (q := 111) rfl rfl (m_kilnOf_o h0 (kOn σ (kInN w (kOutN (kIs (kIs σ 3 0 wk) 7 0 fu) (kA σ 61 0)) i)) _ (by rw [kOn_eq (by rw [kA_kInN, kA_kOutN]; rfl)]; exact kInN_W (kOutN_V (kBk_V hv wk fu) _).1 w i (by rw [kA_kOutN]; exact hi)) (w (5 * i))) (nn := (0, 0)) rfl rfl rfl (Nat.le_of_ble_eq_true rfl) ⟨(Nat.le_of_ble_eq_true rfl), (Nat.le_of_ble_eq_true rfl)⟩ ⟨(Nat.le_of_ble_eq_true rfl), (Nat.le_of_ble_eq_true rfl)⟩ (fun v g1 hp => ?_)
    obtain ⟨rfl, hg1⟩ := hp
    replace hg1 := hg1.symm
    subst hg1
    refine x_aloadr_n hC dX20_isBack_111 (q := 112) rfl rfl ?_
    refine x_get hC xf_X20_32_17 dX20_isBack_112 (q := 115) rfl (n := nn) ((kmix_F _ _ _ hb1).trans h45) rfl ?_
    refine x_iconst hC dX20_isBack_115 (q := 116) rfl (v := (5)) (by decide) ?_
    refine x_iload_n hC dX20_isBack_116 (q := 117) rfl rfl ?_
    refine x_imul hC dX20_isBack_117 (q := 118) rfl ?_
    refine x_iconst hC dX20_isBack_118 (q := 119) rfl (v := (1)) (by decide) ?_
    refine x_iadd hC dX20_isBack_119 (q := 120) rfl ?_
    refine x_iald hC dX20_isBack_120 (q := 121) rfl (n := nw) ((kmix_F _ _ _ hb2).trans h46) (xi5 i 1) (by omega) (by decide) ?_
    refine x_callV hC xv_X20_87 dX20_isBack_121 (q := 124) rfl rfl (m_goesIn_o h0 (kOn σ (kInN w (kOutN (kIs (kIs σ 3 0 wk) 7 0 fu) (kA σ 61 0)) i)) _ i hi2 (w (5 * i)) (w (5 * i + 1)) (hk i hi2)) (nn := (20, i)) (kg_20 (σ := (kOn σ (kInN w (kOutN (kIs (kIs σ 3 0 wk) 7 0 fu) (kA σ 61 0)) i))) i hi2) rfl rfl (Nat.le_of_ble_eq_true rfl) ⟨(Nat.le_of_ble_eq_true rfl), (Nat.le_of_ble_eq_true rfl)⟩ ⟨(Nat.le_of_ble_eq_true rfl), (Nat.le_of_ble_eq_true rfl)⟩ (fun v g1 hp => ?_)
    obtain ⟨rfl, hg1⟩ := hp
    replace hg1 := hg1.symm
    subst hg1
    refine x_geq (g' := kmix (kOn σ (kGi (kOn σ (kInN w (kOutN (kIs (kIs σ 3 0 wk) 7 0 fu) (kA σ 61 0)) i)) i (w (5 * i)) (w (5 * i + 1)))) gF) (by rw [kOn_eq (τ := kGi (kOn σ (kInN w (kOutN (kIs (kIs σ 3 0 wk) 7 0 fu) (kA σ 61 0)) i)) i (w (5 * i)) (w (5 * i + 1))) (by rw [kA_kGi]; rfl)]) ?_
    refine x_aloadr_n hC dX20_isBack_124 (q := 125) rfl rfl ?_
    refine x_aloadr_n hC dX20_isBack_125 (q := 126) rfl rfl ?_
    refine x_get hC xf_X20_32_17 dX20_isBack_126 (q := 129) rfl (n := nn) ((kmix_F _ _ _ hb1).trans h45) rfl ?_
    refine x_iconst hC dX20_isBack_129 (q := 130) rfl (v := (5)) (by decide) ?_
    refine x_iload_n hC dX20_isBack_130 (q := 131) rfl rfl ?_
    refine x_imul hC dX20_isBack_131 (q := 132) rfl ?_
    refine x_iconst hC dX20_isBack_132 (q := 133) rfl (v := (2)) (by decide) ?_
    refine x_iadd hC dX20_isBack_133 (q := 134) rfl ?_
    refine x_iald hC dX20_isBack_134 (q := 135) rfl (n := nw) ((kmix_F _ _ _ hb2).trans h46) (xi5 i 2) (by omega) (by decide) ?_
    refine x_put hC (n := (20, i)) xf_X20_60_5 xd_5 rfl dX20_isBack_135 (q := 138) rfl (kg_20 (σ := (kOn σ (kGi (kOn σ (kInN w (kOutN (kIs (kIs σ 3 0 wk) 7 0 fu) (kA σ 61 0)) i)) i (w (5 * i)) (w (5 * i + 1))))) i hi2) rfl rfl rfl ?_
    refine x_geq (kf_temper (z := (w (5 * i + 2)).toInt) (iI_self _).symm hi2) ?_
    refine x_aloadr_n hC dX20_isBack_138 (q := 139) rfl rfl ?_
    refine x_aloadr_n hC dX20_isBack_139 (q := 140) rfl rfl ?_
    refine x_get hC xf_X20_32_17 dX20_isBack_140 (q := 143) rfl (n := nn) ((kmix_F _ _ _ hb1).trans h45) rfl ?_
    refine x_iconst hC dX20_isBack_143 (q := 144) rfl (v := (5)) (by decide) ?_
    refine x_iload_n hC dX20_isBack_144 (q := 145) rfl rfl ?_
    refine x_imul hC dX20_isBack_145 (q := 146) rfl ?_
    refine x_iconst hC dX20_isBack_146 (q := 147) rfl (v := (3)) (by decide) ?_
    refine x_iadd hC dX20_isBack_147 (q := 148) rfl ?_
    refine x_iald hC dX20_isBack_148 (q := 149) rfl (n := nw) ((kmix_F _ _ _ hb2).trans h46) (xi5 i 3) (by omega) (by decide) ?_
    refine x_iconst hC dX20_isBack_149 (q := 150) rfl (v := (1)) (by decide) ?_
    refine x_icmp_ne hC dX20_isBack_150 (q := 153) rfl (tgt := 157) rfl (fun h150 => ?_) (fun h150 => ?_)
    · have hz : (if w (5 * i + 3) = 1 then (1 : Int) else 0) = 0 := if_neg h150
      refine x_iconst hC dX20_isBack_157 (q := 158) rfl (v := (0)) (by decide) ?_
      refine x_put hC (n := (20, i)) xf_X20_63_5 xd_5 rfl dX20_isBack_158 (q := 161) rfl (kg_20 (σ := (kIs (kOn σ (kGi (kOn σ (kInN w (kOutN (kIs (kIs σ 3 0 wk) 7 0 fu) (kA σ 61 0)) i)) i (w (5 * i)) (w (5 * i + 1)))) 34 i (w (5 * i + 2)).toInt)) i hi2) rfl rfl rfl ?_
      refine x_geq (kf_cracked (z := if w (5 * i + 3) = 1 then 1 else 0) (by rw [hz]; rfl) hi2) ?_
      refine x_aloadr_n hC dX20_isBack_161 (q := 162) rfl rfl ?_
      refine x_aloadr_n hC dX20_isBack_162 (q := 163) rfl rfl ?_
      refine x_get hC xf_X20_32_17 dX20_isBack_163 (q := 166) rfl (n := nn) ((kmix_F _ _ _ hb1).trans h45) rfl ?_
      refine x_iconst hC dX20_isBack_166 (q := 167) rfl (v := (5)) (by decide) ?_
      refine x_iload_n hC dX20_isBack_167 (q := 168) rfl rfl ?_
      refine x_imul hC dX20_isBack_168 (q := 169) rfl ?_
      refine x_iconst hC dX20_isBack_169 (q := 170) rfl (v := (4)) (by decide) ?_
      refine x_iadd hC dX20_isBack_170 (q := 171) rfl ?_
      refine x_iald hC dX20_isBack_171 (q := 172) rfl (n := nw) ((kmix_F _ _ _ hb2).trans h46) (xi5 i 4) (by omega) (by decide) ?_
      refine x_put hC (n := (20, i)) xf_X20_67_5 xd_5 rfl dX20_isBack_172 (q := 175) rfl (kg_20 (σ := (kIs (kIs (kOn σ (kGi (kOn σ (kInN w (kOutN (kIs (kIs σ 3 0 wk) 7 0 fu) (kA σ 61 0)) i)) i (w (5 * i)) (w (5 * i + 1)))) 34 i (w (5 * i + 2)).toInt) 36 i (if w (5 * i + 3) = 1 then 1 else 0))) i hi2) rfl rfl rfl ?_
      refine x_geq (kf_stuck (z := (w (5 * i + 4)).toInt) (iI_self _).symm hi2) ?_
      refine x_iinc hC dX20_isBack_175 (q := 178) rfl rfl (v := nI (i + 1)) (nI_1 i) ?_
      refine x_goto hC dX20_isBack_178 (tgt := 66) rfl ?_
      refine x_geq (g' := kmix (kOn σ (kInN w (kOutN (kIs (kIs σ 3 0 wk) 7 0 fu) (kA σ 61 0)) (i + 1))) gF) (by rw [kOn_eq (τ := kGi (kOn σ (kInN w (kOutN (kIs (kIs σ 3 0 wk) 7 0 fu) (kA σ 61 0)) i)) i (w (5 * i)) (w (5 * i + 1))) (by rw [kA_kGi]; rfl), kOn_eq (by rw [kA_kInN, kA_kOutN]; rfl), kOn_eq (by rw [kA_kInN, kA_kOutN]; rfl)]; rfl) ?_
      refine x_lvle (lv' := [some (.ref a), some (.int (nI (i + 1))), none]) (by repeat' constructor) ?_
      exact ih (i + 1) (by omega) (by omega)
    have hz : (if w (5 * i + 3) = 1 then (1 : Int) else 0) = 1 := if_pos h150
    refine x_iconst hC dX20_isBack_153 (q := 154) rfl (v := (1)) (by decide) ?_
    refine x_goto hC dX20_isBack_154 (tgt := 158) rfl ?_
    refine x_put hC (n := (20, i)) xf_X20_63_5 xd_5 rfl dX20_isBack_158 (q := 161) rfl (kg_20 (σ := (kIs (kOn σ (kGi (kOn σ (kInN w (kOutN (kIs (kIs σ 3 0 wk) 7 0 fu) (kA σ 61 0)) i)) i (w (5 * i)) (w (5 * i + 1)))) 34 i (w (5 * i + 2)).toInt)) i hi2) rfl rfl rfl ?_
    refine x_geq (kf_cracked (z := if w (5 * i + 3) = 1 then 1 else 0) (by rw [hz]; rfl) hi2) ?_
    refine x_aloadr_n hC dX20_isBack_161 (q := 162) rfl rfl ?_
    refine x_aloadr_n hC dX20_isBack_162 (q := 163) rfl rfl ?_
    refine x_get hC xf_X20_32_17 dX20_isBack_163 (q := 166) rfl (n := nn) ((kmix_F _ _ _ hb1).trans h45) rfl ?_
    refine x_iconst hC dX20_isBack_166 (q := 167) rfl (v := (5)) (by decide) ?_
    refine x_iload_n hC dX20_isBack_167 (q := 168) rfl rfl ?_
    refine x_imul hC dX20_isBack_168 (q := 169) rfl ?_
    refine x_iconst hC dX20_isBack_169 (q := 170) rfl (v := (4)) (by decide) ?_
    refine x_iadd hC dX20_isBack_170 (q := 171) rfl ?_
    refine x_iald hC dX20_isBack_171 (q := 172) rfl (n := nw) ((kmix_F _ _ _ hb2).trans h46) (xi5 i 4) (by omega) (by decide) ?_
    refine x_put hC (n := (20, i)) xf_X20_67_5 xd_5 rfl dX20_isBack_172 (q := 175) rfl (kg_20 (σ := (kIs (kIs (kOn σ (kGi (kOn σ (kInN w (kOutN (kIs (kIs σ 3 0 wk) 7 0 fu) (kA σ 61 0)) i)) i (w (5 * i)) (w (5 * i + 1)))) 34 i (w (5 * i + 2)).toInt) 36 i (if w (5 * i + 3) = 1 then 1 else 0))) i hi2) rfl rfl rfl ?_
    refine x_geq (kf_stuck (z := (w (5 * i + 4)).toInt) (iI_self _).symm hi2) ?_
    refine x_iinc hC dX20_isBack_175 (q := 178) rfl rfl (v := nI (i + 1)) (nI_1 i) ?_
    refine x_goto hC dX20_isBack_178 (tgt := 66) rfl ?_
    refine x_geq (g' := kmix (kOn σ (kInN w (kOutN (kIs (kIs σ 3 0 wk) 7 0 fu) (kA σ 61 0)) (i + 1))) gF) (by rw [kOn_eq (τ := kGi (kOn σ (kInN w (kOutN (kIs (kIs σ 3 0 wk) 7 0 fu) (kA σ 61 0)) i)) i (w (5 * i)) (w (5 * i + 1))) (by rw [kA_kGi]; rfl), kOn_eq (by rw [kA_kInN, kA_kOutN]; rfl), kOn_eq (by rw [kA_kInN, kA_kOutN]; rfl)]; rfl) ?_
    refine x_lvle (lv' := [some (.ref a), some (.int (nI (i + 1))), none]) (by repeat' constructor) ?_
    exact ih (i + 1) (by omega) (by omega)
  have hi2 : i < (kA σ 61 0) := Nat.lt_of_not_le (fun q => h35 (show nI (kA σ 61 0) ≤ nI i from nI_le q (by have := hw.1; omega)))
  have hn8 := hw.1
  refine x_aloadr_n hC dX20_isBack_38 (q := 39) rfl rfl ?_
  refine x_get hC xf_X20_3_17 dX20_isBack_39 (q := 42) rfl (n := nn) ((kmix_F _ _ _ hb1).trans h45) rfl ?_
  refine x_get hC xf_X20_22_1 dX20_isBack_42 (q := 45) rfl (n := (0, 0)) rfl rfl ?_
  refine x_get hC xf_X20_43_2 dX20_isBack_45 (q := 48) rfl (n := (3, 0)) rfl rfl ?_
  refine x_iload_n hC dX20_isBack_48 (q := 49) rfl rfl ?_
  refine x_callV hC xv_X20_46 dX20_isBack_49 (q := 52) rfl rfl (m_childAt h0 (kOn σ (kOutN (kIs (kIs σ 3 0 wk) 7 0 fu) i)) _ hw.c61 i hi2) (nn := (4, 0)) rfl rfl rfl (Nat.le_of_ble_eq_true rfl) ⟨(Nat.le_of_ble_eq_true rfl), (Nat.le_of_ble_eq_true rfl)⟩ ⟨(Nat.le_of_ble_eq_true rfl), (Nat.le_of_ble_eq_true rfl)⟩ (fun v g1 hp => ?_)
  obtain ⟨rfl, hg1⟩ := hp
  replace hg1 := hg1.symm
  subst hg1
  refine x_castS hC q1637 rfl dX20_isBack_52 (q := 55) rfl (n := (20, i)) (kg_20 (σ := (kOn σ (kOutN (kIs (kIs σ 3 0 wk) 7 0 fu) i))) i hi2) ?_
  refine x_callV hC xv_X20_80 dX20_isBack_55 (q := 58) rfl rfl (m_X8_goesOut h0 (kOn σ (kOutN (kIs (kIs σ 3 0 wk) 7 0 fu) i)) _ (by rw [kOn_eq (by rw [kA_kOutN]; rfl)]; exact kOutN_V (kBk_V hv wk fu) i) i hi2) (nn := (20, i)) (kg_20 (σ := (kOn σ (kOutN (kIs (kIs σ 3 0 wk) 7 0 fu) i))) i hi2) rfl rfl (Nat.le_of_ble_eq_true rfl) ⟨(Nat.le_of_ble_eq_true rfl), (Nat.le_of_ble_eq_true rfl)⟩ ⟨(Nat.le_of_ble_eq_true rfl), (Nat.le_of_ble_eq_true rfl)⟩ (fun v g1 hp => ?_)
  obtain ⟨rfl, hg1⟩ := hp
  replace hg1 := hg1.symm
  subst hg1
  refine x_iinc hC dX20_isBack_58 (q := 61) rfl rfl (v := nI (i + 1)) (nI_1 i) ?_
  refine x_goto hC dX20_isBack_61 (tgt := 27) rfl ?_
  refine x_geq (g' := kmix (kOn σ (kOutN (kIs (kIs σ 3 0 wk) 7 0 fu) (i + 1))) gF) (by rw [kOn_eq (by rw [kA_kOutN]; rfl), kOn_eq (by rw [kA_kOutN]; rfl)]; rfl) ?_
  refine x_lvle (lv' := [some (.ref a), some (.int (nI (i + 1))), none]) (by repeat' constructor) ?_
  exact ih (i + 1) (by omega) (by omega)

set_option maxHeartbeats 4000000 in
set_option maxRecDepth 100000 in
theorem m_X20_isBack_act {l : Launch} {s0 : State} {D : va_G} (h0 : x0 l s0 D) (σ : KS) (gF : xG) (hv : KV σ) {nn nw nh : xN} (hb1 : Nat.blt nn.1 40 = false) (hb2 : Nat.blt nw.1 40 = false) (hb3 : Nat.blt nh.1 40 = false) {a aw ah : Nat} {v5 : Value} {v6 : Value} {wk fu : Int} {w ht : Nat → Int32} (h45 : gF nn = some (a, xO 20 [.int (iI wk), .int (iI fu), .ref aw, .ref ah, .ref (kA σ 0 0), v5, v6])) (h46 : gF nw = some (aw, xAi .int 40 w)) (h47 : gF nh = some (ah, xAi .int 3 ht)) (hk : kWok w (kA σ 61 0) (kA σ 62 0)) : xMet l s0 D yX20_isBack cX20_isBack 3 none (xr 5 0 0 106) [.ref a] (kmix σ gF) (fun r g1 => r = none ∧ g1 = kmix (kBack σ w ht wk fu) gF) := by
  have hw := hv.1
  refine xMet.of h0 (by decide +kernel) rfl ?_
  intro p e s m args below meth c hC hr hnm
  refine x_aloadr_n hC dX20_isBack_0 (q := 1) rfl rfl ?_
  refine x_get hC xf_X20_3_20 dX20_isBack_1 (q := 4) rfl (n := nn) ((kmix_F _ _ _ hb1).trans h45) rfl ?_
  refine x_aloadr_n hC dX20_isBack_4 (q := 5) rfl rfl ?_
  refine x_get hC xf_X20_19_20 dX20_isBack_5 (q := 8) rfl (n := nn) ((kmix_F _ _ _ hb1).trans h45) rfl ?_
  refine x_put hC (n := (0, 0)) xf_X20_15_1 xd_1 rfl dX20_isBack_8 (q := 11) rfl rfl rfl rfl rfl ?_
  refine x_geq (kf_week (z := wk) rfl) ?_
  refine x_aloadr_n hC dX20_isBack_11 (q := 12) rfl rfl ?_
  refine x_get hC xf_X20_3_20 dX20_isBack_12 (q := 15) rfl (n := nn) ((kmix_F _ _ _ hb1).trans h45) rfl ?_
  refine x_get hC xf_X20_22_1 dX20_isBack_15 (q := 18) rfl (n := (0, 0)) rfl rfl ?_
  refine x_aloadr_n hC dX20_isBack_18 (q := 19) rfl rfl ?_
  refine x_get hC xf_X20_31_20 dX20_isBack_19 (q := 22) rfl (n := nn) ((kmix_F _ _ _ hb1).trans h45) rfl ?_
  refine x_put hC (n := (3, 0)) xf_X20_26_2 xd_2 rfl dX20_isBack_22 (q := 25) rfl rfl rfl rfl rfl ?_
  refine x_geq (kf_fuel (z := fu) rfl) ?_
  refine x_iconst hC dX20_isBack_25 (q := 26) rfl (v := (0)) (by decide) ?_
  refine x_istore_n hC dX20_isBack_26 (q := 27) rfl rfl ?_
  refine x_geq (g' := kmix (kOn σ (kOutN (kIs (kIs σ 3 0 wk) 7 0 fu) 0)) gF) (by rw [kOn_eq (by rw [kA_kOutN]; rfl)]; rfl) ?_
  refine x_lvle (lv' := [some (.ref a), some (.int (nI 0)), none]) (by repeat' constructor) ?_
  refine x_loop (S := (fun i => ((0 : Nat), (0 : Nat), kmix (kOn σ (kOutN (kIs (kIs σ 3 0 wk) 7 0 fu) i)) gF, ([some (.ref a), some (.int (nI i)), none] : xL), ([] : List Value)))) (Inv := fun i => i ≤ (kA σ 61 0)) (μ := fun i => (kA σ 61 0) - i) ?_ 0 (Nat.zero_le _)
  intro i hi ih
  dsimp only at ih ⊢
  refine x_iload_n hC dX20_isBack_27 (q := 28) rfl rfl ?_
  refine x_aloadr_n hC dX20_isBack_28 (q := 29) rfl rfl ?_
  refine x_get hC xf_X20_3_20 dX20_isBack_29 (q := 32) rfl (n := nn) ((kmix_F _ _ _ hb1).trans h45) rfl ?_
  refine x_callVN hC xv_X20_39 dX20_isBack_32 (q := 35) rfl rfl (m_X2_children h0 (kOn σ (kOutN (kIs (kIs σ 3 0 wk) 7 0 fu) i)) _) (nn := (0, 0)) rfl rfl rfl (Nat.le_of_ble_eq_true rfl) ⟨(Nat.le_of_ble_eq_true rfl), (Nat.le_of_ble_eq_true rfl)⟩ ⟨(Nat.le_of_ble_eq_true rfl), (Nat.le_of_ble_eq_true rfl)⟩ (fun v g1 hp => ?_)
  obtain ⟨rfl, hg1⟩ := hp
  replace hg1 := hg1.symm
  subst hg1
  refine x_icmp_ge hC dX20_isBack_35 (q := 38) rfl (tgt := 64) rfl (fun h35 => ?_) (fun h35 => ?_)
  · have hi3 : i = (kA σ 61 0) := by
      have := hw.1
      have h2 : nI (kA σ 61 0) ≤ nI i := h35
      have := (nI_leI (by omega) (by omega)).mp h2
      omega
    rw [hi3]
    refine x_iconst hC dX20_isBack_64 (q := 65) rfl (v := (0)) (by decide) ?_
    refine x_istore_n hC dX20_isBack_65 (q := 66) rfl rfl ?_
    refine x_geq (g' := kmix (kOn σ (kInN w (kOutN (kIs (kIs σ 3 0 wk) 7 0 fu) (kA σ 61 0)) 0)) gF) (by rw [kOn_eq (by rw [kA_kOutN]; rfl), kOn_eq (by rw [kA_kInN, kA_kOutN]; rfl)]; rfl) ?_
    refine x_lvle (lv' := [some (.ref a), some (.int (nI 0)), none]) (by repeat' constructor) ?_
    refine x_loop (S := (fun i => ((0 : Nat), (0 : Nat), kmix (kOn σ (kInN w (kOutN (kIs (kIs σ 3 0 wk) 7 0 fu) (kA σ 61 0)) i)) gF, ([some (.ref a), some (.int (nI i)), none] : xL), ([] : List Value)))) (Inv := fun i => i ≤ (kA σ 61 0)) (μ := fun i => (kA σ 61 0) - i) ?_ 0 (Nat.zero_le _)
    intro i hi ih
    dsimp only at ih ⊢
    refine x_iload_n hC dX20_isBack_66 (q := 67) rfl rfl ?_
    refine x_aloadr_n hC dX20_isBack_67 (q := 68) rfl rfl ?_
    refine x_get hC xf_X20_3_20 dX20_isBack_68 (q := 71) rfl (n := nn) ((kmix_F _ _ _ hb1).trans h45) rfl ?_
    refine x_callVN hC xv_X20_39 dX20_isBack_71 (q := 74) rfl rfl (m_X2_children h0 (kOn σ (kInN w (kOutN (kIs (kIs σ 3 0 wk) 7 0 fu) (kA σ 61 0)) i)) _) (nn := (0, 0)) rfl rfl rfl (Nat.le_of_ble_eq_true rfl) ⟨(Nat.le_of_ble_eq_true rfl), (Nat.le_of_ble_eq_true rfl)⟩ ⟨(Nat.le_of_ble_eq_true rfl), (Nat.le_of_ble_eq_true rfl)⟩ (fun v g1 hp => ?_)
    obtain ⟨rfl, hg1⟩ := hp
    replace hg1 := hg1.symm
    subst hg1
    refine x_icmp_ge hC dX20_isBack_74 (q := 77) rfl (tgt := 181) rfl (fun h74 => ?_) (fun h74 => ?_)
    · have hi3 : i = (kA σ 61 0) := by
        have := hw.1
        have h2 : nI (kA σ 61 0) ≤ nI i := h74
        have := (nI_leI (by omega) (by omega)).mp h2
        omega
      rw [hi3]
      refine x_iconst hC dX20_isBack_181 (q := 182) rfl (v := (0)) (by decide) ?_
      refine x_istore_n hC dX20_isBack_182 (q := 183) rfl rfl ?_
      refine x_geq (g' := kmix (kOn σ (kHtN ht (kInN w (kOutN (kIs (kIs σ 3 0 wk) 7 0 fu) (kA σ 61 0)) (kA σ 61 0)) 0)) gF) (by rw [kOn_eq (by rw [kA_kInN, kA_kOutN]; rfl), kOn_eq (by rw [kA_kHtN, kA_kInN, kA_kOutN]; rfl)]; rfl) ?_
      refine x_lvle (lv' := [some (.ref a), some (.int (nI 0)), none]) (by repeat' constructor) ?_
      refine x_loop (S := (fun i => ((0 : Nat), (0 : Nat), kmix (kOn σ (kHtN ht (kInN w (kOutN (kIs (kIs σ 3 0 wk) 7 0 fu) (kA σ 61 0)) (kA σ 61 0)) i)) gF, ([some (.ref a), some (.int (nI i)), none] : xL), ([] : List Value)))) (Inv := fun i => i ≤ (kA σ 62 0)) (μ := fun i => (kA σ 62 0) - i) ?_ 0 (Nat.zero_le _)
      intro i hi ih
      dsimp only at ih ⊢
      refine x_iload_n hC dX20_isBack_183 (q := 184) rfl rfl ?_
      refine x_aloadr_n hC dX20_isBack_184 (q := 185) rfl rfl ?_
      refine x_get hC xf_X20_3_20 dX20_isBack_185 (q := 188) rfl (n := nn) ((kmix_F _ _ _ hb1).trans h45) rfl ?_
      refine x_callVN hC xv_X20_70 dX20_isBack_188 (q := 191) rfl rfl (m_X2_kilns h0 (kOn σ (kHtN ht (kInN w (kOutN (kIs (kIs σ 3 0 wk) 7 0 fu) (kA σ 61 0)) (kA σ 61 0)) i)) _) (nn := (0, 0)) rfl rfl rfl (Nat.le_of_ble_eq_true rfl) ⟨(Nat.le_of_ble_eq_true rfl), (Nat.le_of_ble_eq_true rfl)⟩ ⟨(Nat.le_of_ble_eq_true rfl), (Nat.le_of_ble_eq_true rfl)⟩ (fun v g1 hp => ?_)
      obtain ⟨rfl, hg1⟩ := hp
      replace hg1 := hg1.symm
      subst hg1
      refine x_icmp_ge hC dX20_isBack_191 (q := 194) rfl (tgt := 226) rfl (fun h191 => ?_) (fun h191 => ?_)
      · have hi3 : i = (kA σ 62 0) := by
          have := hw.2.1
          have h2 : nI (kA σ 62 0) ≤ nI i := h191
          have := (nI_leI (by omega) (by omega)).mp h2
          omega
        rw [hi3]
        exact x_vret hC hr dX20_isBack_226 (Nat.le_of_ble_eq_true rfl) (Nat.le_of_ble_eq_true rfl) ⟨rfl, by rw [kOn_eq (by rw [kA_kHtN, kA_kInN, kA_kOutN]; rfl)]; rfl⟩
      have hi2 : i < (kA σ 62 0) := Nat.lt_of_not_le (fun q => h191 (show nI (kA σ 62 0) ≤ nI i from nI_le q (by have := hw.2.1; omega)))
      have hn8 := hw.2.1
      refine x_aloadr_n hC dX20_isBack_194 (q := 195) rfl rfl ?_
      refine x_get hC xf_X20_3_20 dX20_isBack_195 (q := 198) rfl (n := nn) ((kmix_F _ _ _ hb1).trans h45) rfl ?_
      refine x_get hC xf_X20_22_1 dX20_isBack_198 (q := 201) rfl (n := (0, 0)) rfl rfl ?_
      refine x_get hC xf_X20_73_2 dX20_isBack_201 (q := 204) rfl (n := (3, 0)) rfl rfl ?_
      refine x_iload_n hC dX20_isBack_204 (q := 205) rfl rfl ?_
      refine x_callV hC xv_X20_46 dX20_isBack_205 (q := 208) rfl rfl (m_kilnAt h0 (kOn σ (kHtN ht (kInN w (kOutN (kIs (kIs σ 3 0 wk) 7 0 fu) (kA σ 61 0)) (kA σ 61 0)) i)) _ hw.c62 i hi2) (nn := (6, 0)) rfl rfl rfl (Nat.le_of_ble_eq_true rfl) ⟨(Nat.le_of_ble_eq_true rfl), (Nat.le_of_ble_eq_true rfl)⟩ ⟨(Nat.le_of_ble_eq_true rfl), (Nat.le_of_ble_eq_true rfl)⟩ (fun v g1 hp => ?_)
      obtain ⟨rfl, hg1⟩ := hp
      replace hg1 := hg1.symm
      subst hg1
      refine x_castS hC q1640 rfl dX20_isBack_208 (q := 211) rfl (n := (21, i)) (kg_21 (σ := (kOn σ (kHtN ht (kInN w (kOutN (kIs (kIs σ 3 0 wk) 7 0 fu) (kA σ 61 0)) (kA σ 61 0)) i))) i hi2) ?_
      refine x_aloadr_n hC dX20_isBack_211 (q := 212) rfl rfl ?_
      refine x_get hC xf_X20_36_20 dX20_isBack_212 (q := 215) rfl (n := nn) ((kmix_F _ _ _ hb1).trans h45) rfl ?_
      refine x_iload_n hC dX20_isBack_215 (q := 216) rfl rfl ?_
      refine x_iald hC dX20_isBack_216 (q := 217) rfl (n := nh) ((kmix_F _ _ _ hb3).trans h47) rfl (by omega) (by decide) ?_
      refine x_put hC (n := (21, i)) xf_X20_77_6 xd_6 rfl dX20_isBack_217 (q := 220) rfl (kg_21 (σ := (kOn σ (kHtN ht (kInN w (kOutN (kIs (kIs σ 3 0 wk) 7 0 fu) (kA σ 61 0)) (kA σ 61 0)) i))) i hi2) rfl rfl rfl ?_
      refine x_geq (kf_heat (z := (ht i).toInt) (iI_self _).symm hi2) ?_
      refine x_iinc hC dX20_isBack_220 (q := 223) rfl rfl (v := nI (i + 1)) (nI_1 i) ?_
      refine x_goto hC dX20_isBack_223 (tgt := 183) rfl ?_
      refine x_geq (g' := kmix (kOn σ (kHtN ht (kInN w (kOutN (kIs (kIs σ 3 0 wk) 7 0 fu) (kA σ 61 0)) (kA σ 61 0)) (i + 1))) gF) (by rw [kOn_eq (by rw [kA_kHtN, kA_kInN, kA_kOutN]; rfl), kOn_eq (by rw [kA_kHtN, kA_kInN, kA_kOutN]; rfl)]; rfl) ?_
      refine x_lvle (lv' := [some (.ref a), some (.int (nI (i + 1))), none]) (by repeat' constructor) ?_
      exact ih (i + 1) (by omega) (by omega)
    have hi2 : i < (kA σ 61 0) := Nat.lt_of_not_le (fun q => h74 (show nI (kA σ 61 0) ≤ nI i from nI_le q (by have := hw.1; omega)))
    have hn8 := hw.1
    refine x_aloadr_n hC dX20_isBack_77 (q := 78) rfl rfl ?_
    refine x_get hC xf_X20_3_20 dX20_isBack_78 (q := 81) rfl (n := nn) ((kmix_F _ _ _ hb1).trans h45) rfl ?_
    refine x_get hC xf_X20_22_1 dX20_isBack_81 (q := 84) rfl (n := (0, 0)) rfl rfl ?_
    refine x_get hC xf_X20_43_2 dX20_isBack_84 (q := 87) rfl (n := (3, 0)) rfl rfl ?_
    refine x_iload_n hC dX20_isBack_87 (q := 88) rfl rfl ?_
    refine x_callV hC xv_X20_46 dX20_isBack_88 (q := 91) rfl rfl (m_childAt h0 (kOn σ (kInN w (kOutN (kIs (kIs σ 3 0 wk) 7 0 fu) (kA σ 61 0)) i)) _ hw.c61 i hi2) (nn := (4, 0)) rfl rfl rfl (Nat.le_of_ble_eq_true rfl) ⟨(Nat.le_of_ble_eq_true rfl), (Nat.le_of_ble_eq_true rfl)⟩ ⟨(Nat.le_of_ble_eq_true rfl), (Nat.le_of_ble_eq_true rfl)⟩ (fun v g1 hp => ?_)
    obtain ⟨rfl, hg1⟩ := hp
    replace hg1 := hg1.symm
    subst hg1
    refine x_castS hC q1637 rfl dX20_isBack_91 (q := 94) rfl (n := (20, i)) (kg_20 (σ := (kOn σ (kInN w (kOutN (kIs (kIs σ 3 0 wk) 7 0 fu) (kA σ 61 0)) i))) i hi2) ?_
    refine x_astorer_n hC dX20_isBack_94 (q := 95) rfl rfl ?_
    refine x_aloadr_n hC dX20_isBack_95 (q := 96) rfl rfl ?_
    refine x_aloadr_n hC dX20_isBack_96 (q := 97) rfl rfl ?_
    refine x_get hC xf_X20_3_20 dX20_isBack_97 (q := 100) rfl (n := nn) ((kmix_F _ _ _ hb1).trans h45) rfl ?_
    refine x_aloadr_n hC dX20_isBack_100 (q := 101) rfl rfl ?_
    refine x_get hC xf_X20_32_20 dX20_isBack_101 (q := 104) rfl (n := nn) ((kmix_F _ _ _ hb1).trans h45) rfl ?_
    refine x_iconst hC dX20_isBack_104 (q := 105) rfl (v := (5)) (by decide) ?_
    refine x_iload_n hC dX20_isBack_105 (q := 106) rfl rfl ?_
    refine x_imul hC dX20_isBack_106 (q := 107) rfl ?_
    refine x_iald hC dX20_isBack_107 (q := 108) rfl (n := nw) ((kmix_F _ _ _ hb2).trans h46) (xi50 i) (by omega) (by decide) ?_
    refine x_callVN hC xv_X20_83 dX20_isBack_108 (q := 111) rfl rfl (m_kilnOf_o h0 (kOn σ (kInN w (kOutN (kIs (kIs σ 3 0 wk) 7 0 fu) (kA σ 61 0)) i)) _ (by rw [kOn_eq (by rw [kA_kInN, kA_kOutN]; rfl)]; exact kInN_W (kOutN_V (kBk_V hv wk fu) _).1 w i (by rw [kA_kOutN]; exact hi)) (w (5 * i))) (nn := (0, 0)) rfl rfl rfl (Nat.le_of_ble_eq_true rfl) ⟨(Nat.le_of_ble_eq_true rfl), (Nat.le_of_ble_eq_true rfl)⟩ ⟨(Nat.le_of_ble_eq_true rfl), (Nat.le_of_ble_eq_true rfl)⟩ (fun v g1 hp => ?_)
    obtain ⟨rfl, hg1⟩ := hp
    replace hg1 := hg1.symm
    subst hg1
    refine x_aloadr_n hC dX20_isBack_111 (q := 112) rfl rfl ?_
    refine x_get hC xf_X20_32_20 dX20_isBack_112 (q := 115) rfl (n := nn) ((kmix_F _ _ _ hb1).trans h45) rfl ?_
    refine x_iconst hC dX20_isBack_115 (q := 116) rfl (v := (5)) (by decide) ?_
    refine x_iload_n hC dX20_isBack_116 (q := 117) rfl rfl ?_
    refine x_imul hC dX20_isBack_117 (q := 118) rfl ?_
    refine x_iconst hC dX20_isBack_118 (q := 119) rfl (v := (1)) (by decide) ?_
    refine x_iadd hC dX20_isBack_119 (q := 120) rfl ?_
    refine x_iald hC dX20_isBack_120 (q := 121) rfl (n := nw) ((kmix_F _ _ _ hb2).trans h46) (xi5 i 1) (by omega) (by decide) ?_
    refine x_callV hC xv_X20_87 dX20_isBack_121 (q := 124) rfl rfl (m_goesIn_o h0 (kOn σ (kInN w (kOutN (kIs (kIs σ 3 0 wk) 7 0 fu) (kA σ 61 0)) i)) _ i hi2 (w (5 * i)) (w (5 * i + 1)) (hk i hi2)) (nn := (20, i)) (kg_20 (σ := (kOn σ (kInN w (kOutN (kIs (kIs σ 3 0 wk) 7 0 fu) (kA σ 61 0)) i))) i hi2) rfl rfl (Nat.le_of_ble_eq_true rfl) ⟨(Nat.le_of_ble_eq_true rfl), (Nat.le_of_ble_eq_true rfl)⟩ ⟨(Nat.le_of_ble_eq_true rfl), (Nat.le_of_ble_eq_true rfl)⟩ (fun v g1 hp => ?_)
    obtain ⟨rfl, hg1⟩ := hp
    replace hg1 := hg1.symm
    subst hg1
    refine x_geq (g' := kmix (kOn σ (kGi (kOn σ (kInN w (kOutN (kIs (kIs σ 3 0 wk) 7 0 fu) (kA σ 61 0)) i)) i (w (5 * i)) (w (5 * i + 1)))) gF) (by rw [kOn_eq (τ := kGi (kOn σ (kInN w (kOutN (kIs (kIs σ 3 0 wk) 7 0 fu) (kA σ 61 0)) i)) i (w (5 * i)) (w (5 * i + 1))) (by rw [kA_kGi]; rfl)]) ?_
    refine x_aloadr_n hC dX20_isBack_124 (q := 125) rfl rfl ?_
    refine x_aloadr_n hC dX20_isBack_125 (q := 126) rfl rfl ?_
    refine x_get hC xf_X20_32_20 dX20_isBack_126 (q := 129) rfl (n := nn) ((kmix_F _ _ _ hb1).trans h45) rfl ?_
    refine x_iconst hC dX20_isBack_129 (q := 130) rfl (v := (5)) (by decide) ?_
    refine x_iload_n hC dX20_isBack_130 (q := 131) rfl rfl ?_
    refine x_imul hC dX20_isBack_131 (q := 132) rfl ?_
    refine x_iconst hC dX20_isBack_132 (q := 133) rfl (v := (2)) (by decide) ?_
    refine x_iadd hC dX20_isBack_133 (q := 134) rfl ?_
    refine x_iald hC dX20_isBack_134 (q := 135) rfl (n := nw) ((kmix_F _ _ _ hb2).trans h46) (xi5 i 2) (by omega) (by decide) ?_
    refine x_put hC (n := (20, i)) xf_X20_60_5 xd_5 rfl dX20_isBack_135 (q := 138) rfl (kg_20 (σ := (kOn σ (kGi (kOn σ (kInN w (kOutN (kIs (kIs σ 3 0 wk) 7 0 fu) (kA σ 61 0)) i)) i (w (5 * i)) (w (5 * i + 1))))) i hi2) rfl rfl rfl ?_
    refine x_geq (kf_temper (z := (w (5 * i + 2)).toInt) (iI_self _).symm hi2) ?_
    refine x_aloadr_n hC dX20_isBack_138 (q := 139) rfl rfl ?_
    refine x_aloadr_n hC dX20_isBack_139 (q := 140) rfl rfl ?_
    refine x_get hC xf_X20_32_20 dX20_isBack_140 (q := 143) rfl (n := nn) ((kmix_F _ _ _ hb1).trans h45) rfl ?_
    refine x_iconst hC dX20_isBack_143 (q := 144) rfl (v := (5)) (by decide) ?_
    refine x_iload_n hC dX20_isBack_144 (q := 145) rfl rfl ?_
    refine x_imul hC dX20_isBack_145 (q := 146) rfl ?_
    refine x_iconst hC dX20_isBack_146 (q := 147) rfl (v := (3)) (by decide) ?_
    refine x_iadd hC dX20_isBack_147 (q := 148) rfl ?_
    refine x_iald hC dX20_isBack_148 (q := 149) rfl (n := nw) ((kmix_F _ _ _ hb2).trans h46) (xi5 i 3) (by omega) (by decide) ?_
    refine x_iconst hC dX20_isBack_149 (q := 150) rfl (v := (1)) (by decide) ?_
    refine x_icmp_ne hC dX20_isBack_150 (q := 153) rfl (tgt := 157) rfl (fun h150 => ?_) (fun h150 => ?_)
    · have hz : (if w (5 * i + 3) = 1 then (1 : Int) else 0) = 0 := if_neg h150
      refine x_iconst hC dX20_isBack_157 (q := 158) rfl (v := (0)) (by decide) ?_
      refine x_put hC (n := (20, i)) xf_X20_63_5 xd_5 rfl dX20_isBack_158 (q := 161) rfl (kg_20 (σ := (kIs (kOn σ (kGi (kOn σ (kInN w (kOutN (kIs (kIs σ 3 0 wk) 7 0 fu) (kA σ 61 0)) i)) i (w (5 * i)) (w (5 * i + 1)))) 34 i (w (5 * i + 2)).toInt)) i hi2) rfl rfl rfl ?_
      refine x_geq (kf_cracked (z := if w (5 * i + 3) = 1 then 1 else 0) (by rw [hz]; rfl) hi2) ?_
      refine x_aloadr_n hC dX20_isBack_161 (q := 162) rfl rfl ?_
      refine x_aloadr_n hC dX20_isBack_162 (q := 163) rfl rfl ?_
      refine x_get hC xf_X20_32_20 dX20_isBack_163 (q := 166) rfl (n := nn) ((kmix_F _ _ _ hb1).trans h45) rfl ?_
      refine x_iconst hC dX20_isBack_166 (q := 167) rfl (v := (5)) (by decide) ?_
      refine x_iload_n hC dX20_isBack_167 (q := 168) rfl rfl ?_
      refine x_imul hC dX20_isBack_168 (q := 169) rfl ?_
      refine x_iconst hC dX20_isBack_169 (q := 170) rfl (v := (4)) (by decide) ?_
      refine x_iadd hC dX20_isBack_170 (q := 171) rfl ?_
      refine x_iald hC dX20_isBack_171 (q := 172) rfl (n := nw) ((kmix_F _ _ _ hb2).trans h46) (xi5 i 4) (by omega) (by decide) ?_
      refine x_put hC (n := (20, i)) xf_X20_67_5 xd_5 rfl dX20_isBack_172 (q := 175) rfl (kg_20 (σ := (kIs (kIs (kOn σ (kGi (kOn σ (kInN w (kOutN (kIs (kIs σ 3 0 wk) 7 0 fu) (kA σ 61 0)) i)) i (w (5 * i)) (w (5 * i + 1)))) 34 i (w (5 * i + 2)).toInt) 36 i (if w (5 * i + 3) = 1 then 1 else 0))) i hi2) rfl rfl rfl ?_
      refine x_geq (kf_stuck (z := (w (5 * i + 4)).toInt) (iI_self _).symm hi2) ?_
      refine x_iinc hC dX20_isBack_175 (q := 178) rfl rfl (v := nI (i + 1)) (nI_1 i) ?_
      refine x_goto hC dX20_isBack_178 (tgt := 66) rfl ?_
      refine x_geq (g' := kmix (kOn σ (kInN w (kOutN (kIs (kIs σ 3 0 wk) 7 0 fu) (kA σ 61 0)) (i + 1))) gF) (by rw [kOn_eq (τ := kGi (kOn σ (kInN w (kOutN (kIs (kIs σ 3 0 wk) 7 0 fu) (kA σ 61 0)) i)) i (w (5 * i)) (w (5 * i + 1))) (by rw [kA_kGi]; rfl), kOn_eq (by rw [kA_kInN, kA_kOutN]; rfl), kOn_eq (by rw [kA_kInN, kA_kOutN]; rfl)]; rfl) ?_
      refine x_lvle (lv' := [some (.ref a), some (.int (nI (i + 1))), none]) (by repeat' constructor) ?_
      exact ih (i + 1) (by omega) (by omega)
    have hz : (if w (5 * i + 3) = 1 then (1 : Int) else 0) = 1 := if_pos h150
    refine x_iconst hC dX20_isBack_153 (q := 154) rfl (v := (1)) (by decide) ?_
    refine x_goto hC dX20_isBack_154 (tgt := 158) rfl ?_
    refine x_put hC (n := (20, i)) xf_X20_63_5 xd_5 rfl dX20_isBack_158 (q := 161) rfl (kg_20 (σ := (kIs (kOn σ (kGi (kOn σ (kInN w (kOutN (kIs (kIs σ 3 0 wk) 7 0 fu) (kA σ 61 0)) i)) i (w (5 * i)) (w (5 * i + 1)))) 34 i (w (5 * i + 2)).toInt)) i hi2) rfl rfl rfl ?_
    refine x_geq (kf_cracked (z := if w (5 * i + 3) = 1 then 1 else 0) (by rw [hz]; rfl) hi2) ?_
    refine x_aloadr_n hC dX20_isBack_161 (q := 162) rfl rfl ?_
    refine x_aloadr_n hC dX20_isBack_162 (q := 163) rfl rfl ?_
    refine x_get hC xf_X20_32_20 dX20_isBack_163 (q := 166) rfl (n := nn) ((kmix_F _ _ _ hb1).trans h45) rfl ?_
    refine x_iconst hC dX20_isBack_166 (q := 167) rfl (v := (5)) (by decide) ?_
    refine x_iload_n hC dX20_isBack_167 (q := 168) rfl rfl ?_
    refine x_imul hC dX20_isBack_168 (q := 169) rfl ?_
    refine x_iconst hC dX20_isBack_169 (q := 170) rfl (v := (4)) (by decide) ?_
    refine x_iadd hC dX20_isBack_170 (q := 171) rfl ?_
    refine x_iald hC dX20_isBack_171 (q := 172) rfl (n := nw) ((kmix_F _ _ _ hb2).trans h46) (xi5 i 4) (by omega) (by decide) ?_
    refine x_put hC (n := (20, i)) xf_X20_67_5 xd_5 rfl dX20_isBack_172 (q := 175) rfl (kg_20 (σ := (kIs (kIs (kOn σ (kGi (kOn σ (kInN w (kOutN (kIs (kIs σ 3 0 wk) 7 0 fu) (kA σ 61 0)) i)) i (w (5 * i)) (w (5 * i + 1)))) 34 i (w (5 * i + 2)).toInt) 36 i (if w (5 * i + 3) = 1 then 1 else 0))) i hi2) rfl rfl rfl ?_
    refine x_geq (kf_stuck (z := (w (5 * i + 4)).toInt) (iI_self _).symm hi2) ?_
    refine x_iinc hC dX20_isBack_175 (q := 178) rfl rfl (v := nI (i + 1)) (nI_1 i) ?_
    refine x_goto hC dX20_isBack_178 (tgt := 66) rfl ?_
    refine x_geq (g' := kmix (kOn σ (kInN w (kOutN (kIs (kIs σ 3 0 wk) 7 0 fu) (kA σ 61 0)) (i + 1))) gF) (by rw [kOn_eq (τ := kGi (kOn σ (kInN w (kOutN (kIs (kIs σ 3 0 wk) 7 0 fu) (kA σ 61 0)) i)) i (w (5 * i)) (w (5 * i + 1))) (by rw [kA_kGi]; rfl), kOn_eq (by rw [kA_kInN, kA_kOutN]; rfl), kOn_eq (by rw [kA_kInN, kA_kOutN]; rfl)]; rfl) ?_
    refine x_lvle (lv' := [some (.ref a), some (.int (nI (i + 1))), none]) (by repeat' constructor) ?_
    exact ih (i + 1) (by omega) (by omega)
  have hi2 : i < (kA σ 61 0) := Nat.lt_of_not_le (fun q => h35 (show nI (kA σ 61 0) ≤ nI i from nI_le q (by have := hw.1; omega)))
  have hn8 := hw.1
  refine x_aloadr_n hC dX20_isBack_38 (q := 39) rfl rfl ?_
  refine x_get hC xf_X20_3_20 dX20_isBack_39 (q := 42) rfl (n := nn) ((kmix_F _ _ _ hb1).trans h45) rfl ?_
  refine x_get hC xf_X20_22_1 dX20_isBack_42 (q := 45) rfl (n := (0, 0)) rfl rfl ?_
  refine x_get hC xf_X20_43_2 dX20_isBack_45 (q := 48) rfl (n := (3, 0)) rfl rfl ?_
  refine x_iload_n hC dX20_isBack_48 (q := 49) rfl rfl ?_
  refine x_callV hC xv_X20_46 dX20_isBack_49 (q := 52) rfl rfl (m_childAt h0 (kOn σ (kOutN (kIs (kIs σ 3 0 wk) 7 0 fu) i)) _ hw.c61 i hi2) (nn := (4, 0)) rfl rfl rfl (Nat.le_of_ble_eq_true rfl) ⟨(Nat.le_of_ble_eq_true rfl), (Nat.le_of_ble_eq_true rfl)⟩ ⟨(Nat.le_of_ble_eq_true rfl), (Nat.le_of_ble_eq_true rfl)⟩ (fun v g1 hp => ?_)
  obtain ⟨rfl, hg1⟩ := hp
  replace hg1 := hg1.symm
  subst hg1
  refine x_castS hC q1637 rfl dX20_isBack_52 (q := 55) rfl (n := (20, i)) (kg_20 (σ := (kOn σ (kOutN (kIs (kIs σ 3 0 wk) 7 0 fu) i))) i hi2) ?_
  refine x_callV hC xv_X20_80 dX20_isBack_55 (q := 58) rfl rfl (m_X8_goesOut h0 (kOn σ (kOutN (kIs (kIs σ 3 0 wk) 7 0 fu) i)) _ (by rw [kOn_eq (by rw [kA_kOutN]; rfl)]; exact kOutN_V (kBk_V hv wk fu) i) i hi2) (nn := (20, i)) (kg_20 (σ := (kOn σ (kOutN (kIs (kIs σ 3 0 wk) 7 0 fu) i))) i hi2) rfl rfl (Nat.le_of_ble_eq_true rfl) ⟨(Nat.le_of_ble_eq_true rfl), (Nat.le_of_ble_eq_true rfl)⟩ ⟨(Nat.le_of_ble_eq_true rfl), (Nat.le_of_ble_eq_true rfl)⟩ (fun v g1 hp => ?_)
  obtain ⟨rfl, hg1⟩ := hp
  replace hg1 := hg1.symm
  subst hg1
  refine x_iinc hC dX20_isBack_58 (q := 61) rfl rfl (v := nI (i + 1)) (nI_1 i) ?_
  refine x_goto hC dX20_isBack_61 (tgt := 27) rfl ?_
  refine x_geq (g' := kmix (kOn σ (kOutN (kIs (kIs σ 3 0 wk) 7 0 fu) (i + 1))) gF) (by rw [kOn_eq (by rw [kA_kOutN]; rfl), kOn_eq (by rw [kA_kOutN]; rfl)]; rfl) ?_
  refine x_lvle (lv' := [some (.ref a), some (.int (nI (i + 1))), none]) (by repeat' constructor) ?_
  exact ih (i + 1) (by omega) (by omega)
