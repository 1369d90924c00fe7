theorem KW.c61 {σ : KS} (hw : KW σ) : kA σ 61 0 ≤ kA σ 71 0 ∧ kA σ 71 0 < 1048576 := hw.2.2.1 61 (by decide) (by decide)
theorem KW.c62 {σ : KS} (hw : KW σ) : kA σ 62 0 ≤ kA σ 72 0 ∧ kA σ 72 0 < 1048576 := hw.2.2.1 62 (by decide) (by decide)
theorem KW.c63 {σ : KS} (hw : KW σ) : kA σ 63 0 ≤ kA σ 73 0 ∧ kA σ 73 0 < 1048576 := hw.2.2.1 63 (by decide) (by decide)
theorem KW.c64 {σ : KS} (hw : KW σ) : kA σ 64 0 ≤ kA σ 74 0 ∧ kA σ 74 0 < 1048576 := hw.2.2.1 64 (by decide) (by decide)
theorem KW.c65 {σ : KS} (hw : KW σ) : kA σ 65 0 ≤ kA σ 75 0 ∧ kA σ 75 0 < 1048576 := hw.2.2.1 65 (by decide) (by decide)
set_option maxHeartbeats 4000000 in
set_option maxRecDepth 100000 in
theorem m_X9_full {l : Launch} {s0 : State} {D : va_G} (h0 : x0 l s0 D) (σ : KS) (gF : xG) (kq : Nat) (hq : kq < kA σ 62 0) (hr0 : kA σ 25 kq ≤ 6) : xMet l s0 D yX9_full cX9_full 3 (some .int) (xr 0 0 0 0) [.ref (kA σ 21 kq)] (kmix σ gF) (fun r g1 => r = some (.int (nI (kFull σ kq))) ∧ g1 = kmix σ gF) := by
  refine xMet.of h0 (by decide +kernel) rfl ?_
  intro p e s m args below meth c hC hr hnm
  refine x_iconst hC dX9_full_0 (q := 1) rfl (v := (0)) (by decide) ?_
  refine x_istore_n hC dX9_full_1 (q := 2) rfl rfl ?_
  refine x_iconst hC dX9_full_2 (q := 3) rfl (v := (0)) (by decide) ?_
  refine x_istore_n hC dX9_full_3 (q := 4) rfl rfl ?_
  refine x_loop (S := (fun i => ((0 : Nat), (0 : Nat), kmix σ gF, ([some (.ref (kA σ 21 kq)), some (.int (nI (kCnt (kO σ 1 kq) i))), some (.int (nI i))] : xL), ([] : List Value)))) (Inv := fun i => i ≤ kA σ 25 kq) (μ := fun i => kA σ 25 kq - i) ?_ 0 (Nat.zero_le _)
  intro i hi ih
  dsimp only at ih ⊢
  refine x_iload_n hC dX9_full_4 (q := 5) rfl rfl ?_
  refine x_aloadr_n hC dX9_full_5 (q := 6) rfl rfl ?_
  refine x_get hC xf_X9_21_6 dX9_full_6 (q := 9) rfl (n := (21, kq)) (kg_21 kq hq) rfl ?_
  refine x_icmp_ge hC dX9_full_9 (q := 12) rfl (tgt := 30) rfl (fun h9 => ?_) (fun h9 => ?_)
  · have hi2 : i = kA σ 25 kq := by
      have := (nI_leI (by omega) (by omega)).mp h9
      omega
    refine x_iload_n hC dX9_full_30 (q := 31) rfl rfl ?_
    exact x_iret hC hr dX9_full_31 (Nat.le_of_ble_eq_true rfl) (Nat.le_of_ble_eq_true rfl) ⟨by rw [hi2]; rfl, rfl⟩
  have hi2 : i < kA σ 25 kq := Nat.lt_of_not_le (fun q => h9 (nI_le q (by omega)))
  refine x_aloadr_n hC dX9_full_12 (q := 13) rfl rfl ?_
  refine x_get hC xf_X9_17_6 dX9_full_13 (q := 16) rfl (n := (21, kq)) (kg_21 kq hq) rfl ?_
  refine x_iload_n hC dX9_full_16 (q := 17) rfl rfl ?_
  refine x_aald hC dX9_full_17 (q := 18) rfl (n := (22, kq)) (kg_22 kq hq) (j := i) rfl (by omega) (by decide) rfl ?_
  refine x_ifnull hC dX9_full_18 (q := 21) rfl (tgt := 24) rfl (fun h18 => ?_) (fun a18 h18 => ?_)
  · have he : kCnt (kO σ 1 kq) (i + 1) = kCnt (kO σ 1 kq) i := by
      have : kO σ 1 kq i = none := by simpa using h18
      simp [kCnt, this]
    refine x_iinc hC dX9_full_24 (q := 27) rfl rfl (v := nI (i + 1)) (nI_1 i) ?_
    refine x_goto hC dX9_full_27 (tgt := 4) rfl ?_
    have hb := ih (i + 1) (by omega) (by omega)
    rw [he] at hb
    exact hb
  have he : kCnt (kO σ 1 kq) (i + 1) = kCnt (kO σ 1 kq) i + 1 := by
    cases hk : kO σ 1 kq i with
    | none => rw [hk] at h18; cases h18
    | some z => simp [kCnt, hk]
  refine x_iinc hC dX9_full_21 (q := 24) rfl rfl (v := nI (kCnt (kO σ 1 kq) i + 1)) (nI_1 _) ?_
  refine x_iinc hC dX9_full_24 (q := 27) rfl rfl (v := nI (i + 1)) (nI_1 i) ?_
  refine x_goto hC dX9_full_27 (tgt := 4) rfl ?_
  have hb := ih (i + 1) (by omega) (by omega)
  rw [he] at hb
  exact hb

set_option maxHeartbeats 4000000 in
set_option maxRecDepth 100000 in
theorem m_X9_isLit {l : Launch} {s0 : State} {D : va_G} (h0 : x0 l s0 D) (σ : KS) (gF : xG) (kq : Nat) (hq : kq < kA σ 62 0) : xMet l s0 D yX9_isLit cX9_isLit 1 (some .boolean) (xr 0 0 0 0) [.ref (kA σ 21 kq)] (kmix σ gF) (fun r g1 => r = some (.int (if iI (kI σ 41 kq) = -1 then 0 else 1)) ∧ g1 = kmix σ gF) := by
  refine xMet.of h0 (by decide +kernel) rfl ?_
  intro p e s m args below meth c hC hr hnm
  refine x_aloadr_n hC dX9_isLit_0 (q := 1) rfl rfl ?_
  refine x_get hC xf_X9_9_6 dX9_isLit_1 (q := 4) rfl (n := (21, kq)) (kg_21 kq hq) rfl ?_
  refine x_iconst hC dX9_isLit_4 (q := 5) rfl (v := (-1)) (by decide) ?_
  refine x_icmp_eq hC dX9_isLit_5 (q := 8) rfl (tgt := 12) rfl (fun h5 => ?_) (fun h5 => ?_)
  · refine x_iconst hC dX9_isLit_12 (q := 13) rfl (v := (0)) (by decide) ?_
    exact x_zret hC hr rfl dX9_isLit_13 (Nat.le_of_ble_eq_true rfl) (Nat.le_of_ble_eq_true rfl) ⟨by simp_all, rfl⟩
  refine x_iconst hC dX9_isLit_8 (q := 9) rfl (v := (1)) (by decide) ?_
  refine x_goto hC dX9_isLit_9 (tgt := 13) rfl ?_
  exact x_zret hC hr rfl dX9_isLit_13 (Nat.le_of_ble_eq_true rfl) (Nat.le_of_ble_eq_true rfl) ⟨by simp_all, rfl⟩

set_option maxHeartbeats 4000000 in
set_option maxRecDepth 100000 in
theorem m_X8_isFired {l : Launch} {s0 : State} {D : va_G} (h0 : x0 l s0 D) (σ : KS) (gF : xG) (ch : Nat) (hc : ch < kA σ 61 0) : xMet l s0 D yX8_isFired cX8_isFired 1 (some .boolean) (xr 0 0 0 0) [.ref (kA σ 20 ch)] (kmix σ gF) (fun r g1 => r = some (.int (if iI (kI σ 34 ch) = -1 then 0 else 1)) ∧ g1 = kmix σ gF) := by
  refine xMet.of h0 (by decide +kernel) rfl ?_
  intro p e s m args below meth c hC hr hnm
  refine x_aloadr_n hC dX8_isFired_0 (q := 1) rfl rfl ?_
  refine x_get hC xf_X8_15_5 dX8_isFired_1 (q := 4) rfl (n := (20, ch)) (kg_20 ch hc) rfl ?_
  refine x_iconst hC dX8_isFired_4 (q := 5) rfl (v := (-1)) (by decide) ?_
  refine x_icmp_eq hC dX8_isFired_5 (q := 8) rfl (tgt := 12) rfl (fun h5 => ?_) (fun h5 => ?_)
  · refine x_iconst hC dX8_isFired_12 (q := 13) rfl (v := (0)) (by decide) ?_
    exact x_zret hC hr rfl dX8_isFired_13 (Nat.le_of_ble_eq_true rfl) (Nat.le_of_ble_eq_true rfl) ⟨by simp_all, rfl⟩
  refine x_iconst hC dX8_isFired_8 (q := 9) rfl (v := (1)) (by decide) ?_
  refine x_goto hC dX8_isFired_9 (tgt := 13) rfl ?_
  exact x_zret hC hr rfl dX8_isFired_13 (Nat.le_of_ble_eq_true rfl) (Nat.le_of_ble_eq_true rfl) ⟨by simp_all, rfl⟩

def kKil (σ : KS) (ch : Nat) : Int32 := match kO σ 0 ch 0 with
  | none => -1
  | some q => nI q

set_option maxHeartbeats 4000000 in
set_option maxRecDepth 100000 in
theorem m_X8_kiln_n {l : Launch} {s0 : State} {D : va_G} (h0 : x0 l s0 D) (σ : KS) (gF : xG) (ch : Nat) (hc : ch < kA σ 61 0) (hn : kO σ 0 ch 0 = none) : xMet l s0 D yX8_kiln cX8_kiln 1 (some .int) (xr 0 0 0 0) [.ref (kA σ 20 ch)] (kmix σ gF) (fun r g1 => r = some (.int (-1)) ∧ g1 = kmix σ gF) := by
  refine xMet.of h0 (by decide +kernel) rfl ?_
  intro p e s m args below meth c hC hr hnm
  refine x_aloadr_n hC dX8_kiln_0 (q := 1) rfl rfl ?_
  refine x_get hC xf_X8_18_5 dX8_kiln_1 (q := 4) rfl (n := (20, ch)) (kg_20 ch hc) rfl ?_
  refine x_ifnonnull hC dX8_kiln_4 (q := 7) rfl (tgt := 11) rfl (fun a4 h4 => ?_) (fun h4 => ?_)
  · exact absurd h4 (by simp [hn])
  refine x_iconst hC dX8_kiln_7 (q := 8) rfl (v := (-1)) (by decide) ?_
  refine x_goto hC dX8_kiln_8 (tgt := 18) rfl ?_
  exact x_iret hC hr dX8_kiln_18 (Nat.le_of_ble_eq_true rfl) (Nat.le_of_ble_eq_true rfl) ⟨rfl, rfl⟩

set_option maxHeartbeats 4000000 in
set_option maxRecDepth 100000 in
theorem m_X8_kiln_s {l : Launch} {s0 : State} {D : va_G} (h0 : x0 l s0 D) (σ : KS) (gF : xG) (ch : Nat) (hc : ch < kA σ 61 0) {kq : Nat} (hq : kq < kA σ 62 0) (hn : kO σ 0 ch 0 = some kq) : xMet l s0 D yX8_kiln cX8_kiln 1 (some .int) (xr 0 0 0 0) [.ref (kA σ 20 ch)] (kmix σ gF) (fun r g1 => r = some (.int (nI kq)) ∧ g1 = kmix σ gF) := by
  refine xMet.of h0 (by decide +kernel) rfl ?_
  intro p e s m args below meth c hC hr hnm
  refine x_aloadr_n hC dX8_kiln_0 (q := 1) rfl rfl ?_
  refine x_get hC xf_X8_18_5 dX8_kiln_1 (q := 4) rfl (n := (20, ch)) (kg_20 ch hc) rfl ?_
  refine x_ifnonnull hC dX8_kiln_4 (q := 7) rfl (tgt := 11) rfl (fun a4 h4 => ?_) (fun h4 => ?_)
  · refine x_aloadr_n hC dX8_kiln_11 (q := 12) rfl rfl ?_
    refine x_get hC xf_X8_18_5 dX8_kiln_12 (q := 15) rfl (n := (20, ch)) (kg_20 ch hc) rfl ?_
    refine x_steq (st1 := [.ref (kA σ 21 kq)]) (by rw [hn]; rfl) ?_
    refine x_get hC xf_X8_22_6 dX8_kiln_15 (q := 18) rfl (n := (21, kq)) (kg_21 kq hq) rfl ?_
    exact x_iret hC hr dX8_kiln_18 (Nat.le_of_ble_eq_true rfl) (Nat.le_of_ble_eq_true rfl) ⟨rfl, rfl⟩
  · exact absurd h4 (by simp [hn])

theorem m_X8_kiln {l : Launch} {s0 : State} {D : va_G} (h0 : x0 l s0 D) (σ : KS) (gF : xG) (hw : KW σ) (ch : Nat) (hc : ch < kA σ 61 0) : xMet l s0 D yX8_kiln cX8_kiln 1 (some .int) (xr 0 0 0 0) [.ref (kA σ 20 ch)] (kmix σ gF) (fun r g1 => r = some (.int (kKil σ ch)) ∧ g1 = kmix σ gF) := by
  unfold kKil
  cases hn : kO σ 0 ch 0 with
  | none => exact m_X8_kiln_n h0 σ gF ch hc hn
  | some kq => exact m_X8_kiln_s h0 σ gF ch hc (hw.2.2.2.2.1 ch kq hc hn) hn

set_option maxHeartbeats 4000000 in
set_option maxRecDepth 100000 in
theorem m_X2_children {l : Launch} {s0 : State} {D : va_G} (h0 : x0 l s0 D) (σ : KS) (gF : xG)  : xMet l s0 D yX2_children cX2_children 1 (some .int) (xr 1 0 0 20) [.ref (kA σ 0 0)] (kmix σ gF) (fun r g1 => r = some (.int (nI (kA σ 61 0))) ∧ g1 = kmix σ gF) := by
  refine xMet.of h0 (by decide +kernel) rfl ?_
  intro p e s m args below meth c hC hr hnm
  refine x_aloadr_n hC dX2_children_0 (q := 1) rfl rfl ?_
  refine x_get hC xf_X2_20_1 dX2_children_1 (q := 4) rfl (n := (0, 0)) rfl rfl ?_
  refine x_get hC xf_X2_143_2 dX2_children_4 (q := 7) rfl (n := (3, 0)) rfl rfl ?_
  refine x_callV hC xv_X2_136 dX2_children_7 (q := 10) rfl rfl (m_J3_size h0 _ (n := (4, 0)) rfl) (nn := (4, 0)) rfl rfl rfl (Nat.le_of_ble_eq_true rfl) ⟨(Nat.le_of_ble_eq_true rfl), (Nat.le_of_ble_eq_true rfl)⟩ ⟨(Nat.le_of_ble_eq_true rfl), (Nat.le_of_ble_eq_true rfl)⟩ (fun v g1 hp => ?_)
  obtain ⟨rfl, hg1⟩ := hp
  replace hg1 := hg1.symm
  subst hg1
  exact x_iret hC hr dX2_children_10 (Nat.le_of_ble_eq_true rfl) (Nat.le_of_ble_eq_true rfl) ⟨rfl, rfl⟩

set_option maxHeartbeats 4000000 in
set_option maxRecDepth 100000 in
theorem m_X2_kilns {l : Launch} {s0 : State} {D : va_G} (h0 : x0 l s0 D) (σ : KS) (gF : xG)  : xMet l s0 D yX2_kilns cX2_kilns 1 (some .int) (xr 1 0 0 20) [.ref (kA σ 0 0)] (kmix σ gF) (fun r g1 => r = some (.int (nI (kA σ 62 0))) ∧ g1 = kmix σ gF) := by
  refine xMet.of h0 (by decide +kernel) rfl ?_
  intro p e s m args below meth c hC hr hnm
  refine x_aloadr_n hC dX2_kilns_0 (q := 1) rfl rfl ?_
  refine x_get hC xf_X2_20_1 dX2_kilns_1 (q := 4) rfl (n := (0, 0)) rfl rfl ?_
  refine x_get hC xf_X2_152_2 dX2_kilns_4 (q := 7) rfl (n := (3, 0)) rfl rfl ?_
  refine x_callV hC xv_X2_136 dX2_kilns_7 (q := 10) rfl rfl (m_J3_size h0 _ (n := (6, 0)) rfl) (nn := (6, 0)) rfl rfl rfl (Nat.le_of_ble_eq_true rfl) ⟨(Nat.le_of_ble_eq_true rfl), (Nat.le_of_ble_eq_true rfl)⟩ ⟨(Nat.le_of_ble_eq_true rfl), (Nat.le_of_ble_eq_true rfl)⟩ (fun v g1 hp => ?_)
  obtain ⟨rfl, hg1⟩ := hp
  replace hg1 := hg1.symm
  subst hg1
  exact x_iret hC hr dX2_kilns_10 (Nat.le_of_ble_eq_true rfl) (Nat.le_of_ble_eq_true rfl) ⟨rfl, rfl⟩

set_option maxHeartbeats 4000000 in
set_option maxRecDepth 100000 in
theorem m_X2_childOf {l : Launch} {s0 : State} {D : va_G} (h0 : x0 l s0 D) (σ : KS) (gF : xG) (hw : KW σ) (ch : Nat) (hc : ch < kA σ 61 0) : xMet l s0 D yX2_childOf cX2_childOf 2 (some (.object "KilnBench$Child")) (xr 4 0 0 85) [.ref (kA σ 0 0), .int (nI ch)] (kmix σ gF) (fun r g1 => r = some (.ref (kA σ 20 ch)) ∧ g1 = kmix σ gF) := by
  refine xMet.of h0 (by decide +kernel) rfl ?_
  intro p e s m args below meth c hC hr hnm
  refine x_aloadr_n hC dX2_childOf_0 (q := 1) rfl rfl ?_
  refine x_get hC xf_X2_20_1 dX2_childOf_1 (q := 4) rfl (n := (0, 0)) rfl rfl ?_
  refine x_get hC xf_X2_143_2 dX2_childOf_4 (q := 7) rfl (n := (3, 0)) rfl rfl ?_
  refine x_iload_n hC dX2_childOf_7 (q := 8) rfl rfl ?_
  refine x_callS hC xv_X2_146 dX2_childOf_8 (q := 11) rfl rfl (m_X2_of_in h0 _ (n := (4, 0)) (nd := (5, 0)) rfl (kg_5 (by have := hw.c61.1; omega)) (j := ch) (sz := kA σ 61 0) rfl rfl hc hw.c61.1 (by have := hw.c61.2; omega)) rfl (Nat.le_of_ble_eq_true rfl) ⟨(Nat.le_of_ble_eq_true rfl), (Nat.le_of_ble_eq_true rfl)⟩ ⟨(Nat.le_of_ble_eq_true rfl), (Nat.le_of_ble_eq_true rfl)⟩ (fun v g1 hp => ?_)
  rw [if_pos hc] at hp
  obtain ⟨rfl, hg1⟩ := hp
  replace hg1 := hg1.symm
  subst hg1
  refine x_castS hC q1344 rfl dX2_childOf_11 (q := 14) rfl (n := (20, ch)) (kg_20 ch hc) ?_
  exact x_aret hC hr (Or.inl ⟨_, rfl⟩) (Or.inr ⟨_, rfl⟩) dX2_childOf_14 (Nat.le_of_ble_eq_true rfl) (Nat.le_of_ble_eq_true rfl) ⟨rfl, rfl⟩

set_option maxHeartbeats 4000000 in
set_option maxRecDepth 100000 in
theorem m_X2_childOf_out {l : Launch} {s0 : State} {D : va_G} (h0 : x0 l s0 D) (σ : KS) (gF : xG) (hw : KW σ) (x : Int32) (hx : x.toInt < 0 ∨ (kA σ 61 0 : Int) ≤ x.toInt) : xMet l s0 D yX2_childOf cX2_childOf 2 (some (.object "KilnBench$Child")) (xr 4 0 0 85) [.ref (kA σ 0 0), .int x] (kmix σ gF) (fun r g1 => r = some (.null) ∧ g1 = kmix σ gF) := by
  refine xMet.of h0 (by decide +kernel) rfl ?_
  intro p e s m args below meth c hC hr hnm
  refine x_aloadr_n hC dX2_childOf_0 (q := 1) rfl rfl ?_
  refine x_get hC xf_X2_20_1 dX2_childOf_1 (q := 4) rfl (n := (0, 0)) rfl rfl ?_
  refine x_get hC xf_X2_143_2 dX2_childOf_4 (q := 7) rfl (n := (3, 0)) rfl rfl ?_
  refine x_iload_n hC dX2_childOf_7 (q := 8) rfl rfl ?_
  refine x_callS hC xv_X2_146 dX2_childOf_8 (q := 11) rfl rfl (m_X2_of_out h0 _ (n := (4, 0)) rfl (sz := kA σ 61 0) rfl (by have := hw.1; have := hw.2.1; omega) hx) rfl (Nat.le_of_ble_eq_true rfl) ⟨(Nat.le_of_ble_eq_true rfl), (Nat.le_of_ble_eq_true rfl)⟩ ⟨(Nat.le_of_ble_eq_true rfl), (Nat.le_of_ble_eq_true rfl)⟩ (fun v g1 hp => ?_)
  obtain ⟨rfl, hg1⟩ := hp
  replace hg1 := hg1.symm
  subst hg1
  refine x_castn hC dX2_childOf_11 (q := 14) rfl ?_
  exact x_aret hC hr (Or.inl ⟨_, rfl⟩) (Or.inl rfl) dX2_childOf_14 (Nat.le_of_ble_eq_true rfl) (Nat.le_of_ble_eq_true rfl) ⟨rfl, rfl⟩

set_option maxHeartbeats 4000000 in
set_option maxRecDepth 100000 in
theorem m_X2_kilnOf {l : Launch} {s0 : State} {D : va_G} (h0 : x0 l s0 D) (σ : KS) (gF : xG) (hw : KW σ) (kq : Nat) (hq : kq < kA σ 62 0) : xMet l s0 D yX2_kilnOf cX2_kilnOf 2 (some (.object "KilnBench$Kiln")) (xr 4 0 0 85) [.ref (kA σ 0 0), .int (nI kq)] (kmix σ gF) (fun r g1 => r = some (.ref (kA σ 21 kq)) ∧ g1 = kmix σ gF) := by
  refine xMet.of h0 (by decide +kernel) rfl ?_
  intro p e s m args below meth c hC hr hnm
  refine x_aloadr_n hC dX2_kilnOf_0 (q := 1) rfl rfl ?_
  refine x_get hC xf_X2_20_1 dX2_kilnOf_1 (q := 4) rfl (n := (0, 0)) rfl rfl ?_
  refine x_get hC xf_X2_152_2 dX2_kilnOf_4 (q := 7) rfl (n := (3, 0)) rfl rfl ?_
  refine x_iload_n hC dX2_kilnOf_7 (q := 8) rfl rfl ?_
  refine x_callS hC xv_X2_146 dX2_kilnOf_8 (q := 11) rfl rfl (m_X2_of_in h0 _ (n := (6, 0)) (nd := (7, 0)) rfl (kg_7 (by have := hw.c62.1; omega)) (j := kq) (sz := kA σ 62 0) rfl rfl hq hw.c62.1 (by have := hw.c62.2; omega)) rfl (Nat.le_of_ble_eq_true rfl) ⟨(Nat.le_of_ble_eq_true rfl), (Nat.le_of_ble_eq_true rfl)⟩ ⟨(Nat.le_of_ble_eq_true rfl), (Nat.le_of_ble_eq_true rfl)⟩ (fun v g1 hp => ?_)
  rw [if_pos hq] at hp
  obtain ⟨rfl, hg1⟩ := hp
  replace hg1 := hg1.symm
  subst hg1
  refine x_castS hC q1361 rfl dX2_kilnOf_11 (q := 14) rfl (n := (21, kq)) (kg_21 kq hq) ?_
  exact x_aret hC hr (Or.inl ⟨_, rfl⟩) (Or.inr ⟨_, rfl⟩) dX2_kilnOf_14 (Nat.le_of_ble_eq_true rfl) (Nat.le_of_ble_eq_true rfl) ⟨rfl, rfl⟩

set_option maxHeartbeats 4000000 in
set_option maxRecDepth 100000 in
theorem m_X2_kilnOf_out {l : Launch} {s0 : State} {D : va_G} (h0 : x0 l s0 D) (σ : KS) (gF : xG) (hw : KW σ) (x : Int32) (hx : x.toInt < 0 ∨ (kA σ 62 0 : Int) ≤ x.toInt) : xMet l s0 D yX2_kilnOf cX2_kilnOf 2 (some (.object "KilnBench$Kiln")) (xr 4 0 0 85) [.ref (kA σ 0 0), .int x] (kmix σ gF) (fun r g1 => r = some (.null) ∧ g1 = kmix σ gF) := by
  refine xMet.of h0 (by decide +kernel) rfl ?_
  intro p e s m args below meth c hC hr hnm
  refine x_aloadr_n hC dX2_kilnOf_0 (q := 1) rfl rfl ?_
  refine x_get hC xf_X2_20_1 dX2_kilnOf_1 (q := 4) rfl (n := (0, 0)) rfl rfl ?_
  refine x_get hC xf_X2_152_2 dX2_kilnOf_4 (q := 7) rfl (n := (3, 0)) rfl rfl ?_
  refine x_iload_n hC dX2_kilnOf_7 (q := 8) rfl rfl ?_
  refine x_callS hC xv_X2_146 dX2_kilnOf_8 (q := 11) rfl rfl (m_X2_of_out h0 _ (n := (6, 0)) rfl (sz := kA σ 62 0) rfl (by have := hw.1; have := hw.2.1; omega) hx) rfl (Nat.le_of_ble_eq_true rfl) ⟨(Nat.le_of_ble_eq_true rfl), (Nat.le_of_ble_eq_true rfl)⟩ ⟨(Nat.le_of_ble_eq_true rfl), (Nat.le_of_ble_eq_true rfl)⟩ (fun v g1 hp => ?_)
  obtain ⟨rfl, hg1⟩ := hp
  replace hg1 := hg1.symm
  subst hg1
  refine x_castn hC dX2_kilnOf_11 (q := 14) rfl ?_
  exact x_aret hC hr (Or.inl ⟨_, rfl⟩) (Or.inl rfl) dX2_kilnOf_14 (Nat.le_of_ble_eq_true rfl) (Nat.le_of_ble_eq_true rfl) ⟨rfl, rfl⟩
