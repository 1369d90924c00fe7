set_option maxHeartbeats 4000000 in
set_option maxRecDepth 100000 in
theorem m_X2_refused {l : Launch} {s0 : State} {D : va_G} (h0 : x0 l s0 D) (σ : KS) (gF : xG) (j : Nat) (hj : j < 6) : xMet l s0 D yX2_refused cX2_refused 2 (some .int) (xr 0 0 0 0) [.ref (kA σ 0 0), .int (nI j)] (kmix σ gF) (fun r g1 => r = some (.int (-1)) ∧ g1 = kmix (kVs σ 1 0 j (kV σ 1 0 j + 1)) gF) := by
  refine xMet.of h0 (by decide +kernel) rfl ?_
  intro p e s m args below meth c hC hr hnm
  refine x_aloadr_n hC dX2_refused_0 (q := 1) rfl rfl ?_
  refine x_get hC xf_X2_13_1 dX2_refused_1 (q := 4) rfl (n := (0, 0)) rfl rfl ?_
  refine x_iload_n hC dX2_refused_4 (q := 5) rfl rfl ?_
  refine x_dup2 hC dX2_refused_5 (q := 6) rfl rfl rfl ?_
  refine x_iald hC dX2_refused_6 (q := 7) rfl (n := (2, 0)) rfl rfl hj (by decide) ?_
  refine x_iconst hC dX2_refused_7 (q := 8) rfl (v := (1)) (by decide) ?_
  refine x_iadd hC dX2_refused_8 (q := 9) rfl ?_
  refine x_iast hC dX2_refused_9 (q := 10) rfl (n := (2, 0)) rfl rfl rfl hj (by decide) ?_
  refine x_geq (kf_refusal (iI_add _ 1)) ?_
  refine x_iconst hC dX2_refused_10 (q := 11) rfl (v := (-1)) (by decide) ?_
  exact x_iret hC hr dX2_refused_11 (Nat.le_of_ble_eq_true rfl) (Nat.le_of_ble_eq_true rfl) ⟨rfl, rfl⟩

set_option maxHeartbeats 4000000 in
set_option maxRecDepth 100000 in
theorem m_X2_refuses {l : Launch} {s0 : State} {D : va_G} (h0 : x0 l s0 D) (σ : KS) (gF : xG) (j : Nat) (hj : j < 6) : xMet l s0 D yX2_refuses cX2_refuses 2 (some .boolean) (xr 1 0 0 21) [.ref (kA σ 0 0), .int (nI j)] (kmix σ gF) (fun r g1 => r = some (.int 0) ∧ g1 = kmix (kVs σ 1 0 j (kV σ 1 0 j + 1)) gF) := by
  refine xMet.of h0 (by decide +kernel) rfl ?_
  intro p e s m args below meth c hC hr hnm
  refine x_aloadr_n hC dX2_refuses_0 (q := 1) rfl rfl ?_
  refine x_iload_n hC dX2_refuses_1 (q := 2) rfl rfl ?_
  refine x_callV hC xv_X2_78 dX2_refuses_2 (q := 5) rfl rfl (m_X2_refused h0 σ gF j hj) (nn := (0, 0)) rfl rfl rfl (Nat.le_of_ble_eq_true rfl) ⟨(Nat.le_of_ble_eq_true rfl), (Nat.le_of_ble_eq_true rfl)⟩ ⟨(Nat.le_of_ble_eq_true rfl), (Nat.le_of_ble_eq_true rfl)⟩ (fun v g1 hp => ?_)
  obtain ⟨rfl, hg1⟩ := hp
  replace hg1 := hg1.symm
  subst hg1
  refine x_iconst hC dX2_refuses_5 (q := 6) rfl (v := (-1)) (by decide) ?_
  refine x_icmp_eq hC dX2_refuses_6 (q := 9) rfl (tgt := 13) rfl (fun h6 => ?_) (fun h6 => ?_)
  · refine x_iconst hC dX2_refuses_13 (q := 14) rfl (v := (0)) (by decide) ?_
    exact x_zret hC hr rfl dX2_refuses_14 (Nat.le_of_ble_eq_true rfl) (Nat.le_of_ble_eq_true rfl) ⟨rfl, rfl⟩
  · exact absurd rfl h6

set_option maxHeartbeats 4000000 in
set_option maxRecDepth 100000 in
theorem m_X2_status {l : Launch} {s0 : State} {D : va_G} (h0 : x0 l s0 D) (σ : KS) (gF : xG) (j : Nat) (hj : j < 6) : xMet l s0 D yX2_status cX2_status 2 (some .int) (xr 1 0 0 25) [.ref (kA σ 0 0), .int (nI j)] (kmix σ gF) (fun r g1 => r = some (.int (iI (kV σ 1 0 j))) ∧ g1 = kmix σ gF) := by
  refine xMet.of h0 (by decide +kernel) rfl ?_
  intro p e s m args below meth c hC hr hnm
  refine x_iload_n hC dX2_status_0 (q := 1) rfl rfl ?_
  refine x_i2l hC dX2_status_1 (q := 2) rfl ?_
  refine x_lconst hC dX2_status_2 (q := 3) rfl (v := 0) (by decide) ?_
  refine x_ldc2_w hC dX2_status_3 (q := 6) rfl q1540 ?_
  refine x_callS hC xv_X2_95 dX2_status_6 (q := 9) rfl rfl (m_isIn_t h0 _ (x := j) (y := 0) (z := 5) (nI64 (by omega)) rfl rfl (by omega)) rfl (Nat.le_of_ble_eq_true rfl) ⟨(Nat.le_of_ble_eq_true rfl), (Nat.le_of_ble_eq_true rfl)⟩ ⟨(Nat.le_of_ble_eq_true rfl), (Nat.le_of_ble_eq_true rfl)⟩ (fun v g1 hp => ?_)
  obtain ⟨rfl, hg1⟩ := hp
  replace hg1 := hg1.symm
  subst hg1
  refine x_if_eq hC dX2_status_9 (q := 12) rfl (tgt := 21) rfl (fun h9 => ?_) (fun h9 => ?_)
  · exact absurd h9 (by decide)
  refine x_aloadr_n hC dX2_status_12 (q := 13) rfl rfl ?_
  refine x_get hC xf_X2_13_1 dX2_status_13 (q := 16) rfl (n := (0, 0)) rfl rfl ?_
  refine x_iload_n hC dX2_status_16 (q := 17) rfl rfl ?_
  refine x_iald hC dX2_status_17 (q := 18) rfl (n := (2, 0)) rfl rfl hj (by decide) ?_
  refine x_goto hC dX2_status_18 (tgt := 22) rfl ?_
  exact x_iret hC hr dX2_status_22 (Nat.le_of_ble_eq_true rfl) (Nat.le_of_ble_eq_true rfl) ⟨rfl, rfl⟩

set_option maxHeartbeats 4000000 in
set_option maxRecDepth 100000 in
theorem m_X2_end {l : Launch} {s0 : State} {D : va_G} (h0 : x0 l s0 D) (σ : KS) (gF : xG) (n : Nat) (hn : n < 2147483648) {t : Nat} (ht : kI σ 0 0 = t) (hnt : n ≤ t) (htt : t < 2147483648) : xMet l s0 D yX2_end cX2_end 2 (some .boolean) (xr 2 0 0 42) [.ref (kA σ 0 0), .int (nI n)] (kmix σ gF) (fun r g1 => r = some (.int 1) ∧ g1 = kmix (kIs σ 0 0 n) gF) := by
  refine xMet.of h0 (by decide +kernel) rfl ?_
  intro p e s m args below meth c hC hr hnm
  refine x_iload_n hC dX2_end_0 (q := 1) rfl rfl ?_
  refine x_if_lt hC dX2_end_1 (q := 4) rfl (tgt := 12) rfl (fun h1 => ?_) (fun h1 => ?_)
  · exact absurd h1 (nI_pos hn)
  refine x_iload_n hC dX2_end_4 (q := 5) rfl rfl ?_
  refine x_aloadr_n hC dX2_end_5 (q := 6) rfl rfl ?_
  refine x_get hC xf_X2_82_1 dX2_end_6 (q := 9) rfl (n := (0, 0)) rfl rfl ?_
  refine x_icmp_le hC dX2_end_9 (q := 12) rfl (tgt := 18) rfl (fun h9 => ?_) (fun h9 => ?_)
  · refine x_aloadr_n hC dX2_end_18 (q := 19) rfl rfl ?_
    refine x_iload_n hC dX2_end_19 (q := 20) rfl rfl ?_
    refine x_put hC (n := (0, 0)) xf_X2_82_1 xd_1 rfl dX2_end_20 (q := 23) rfl rfl rfl rfl rfl ?_
    refine x_geq (kf_taped (iI_nat n).symm) ?_
    refine x_iconst hC dX2_end_23 (q := 24) rfl (v := (1)) (by decide) ?_
    exact x_zret hC hr rfl dX2_end_24 (Nat.le_of_ble_eq_true rfl) (Nat.le_of_ble_eq_true rfl) ⟨rfl, rfl⟩
  · exact absurd (by rw [ht, iI_nat]; exact nI_le hnt htt) h9

set_option maxHeartbeats 4000000 in
set_option maxRecDepth 100000 in
theorem m_X2_seed {l : Launch} {s0 : State} {D : va_G} (h0 : x0 l s0 D) (σ : KS) (gF : xG) (x : Int32) (hx : 0 ≤ x) : xMet l s0 D yX2_seed cX2_seed 2 (some .boolean) (xr 2 0 0 42) [.ref (kA σ 0 0), .int x] (kmix σ gF) (fun r g1 => r = some (.int 1) ∧ g1 = kmix (kLs σ 1 0 x.toInt64) gF) := by
  refine xMet.of h0 (by decide +kernel) rfl ?_
  intro p e s m args below meth c hC hr hnm
  refine x_iload_n hC dX2_seed_0 (q := 1) rfl rfl ?_
  refine x_if_ge hC dX2_seed_1 (q := 4) rfl (tgt := 10) rfl (fun h1 => ?_) (fun h1 => ?_)
  · refine x_aloadr_n hC dX2_seed_10 (q := 11) rfl rfl ?_
    refine x_iload_n hC dX2_seed_11 (q := 12) rfl rfl ?_
    refine x_i2l hC dX2_seed_12 (q := 13) rfl ?_
    refine x_put hC (n := (0, 0)) xf_X2_48_1 xd_1 rfl dX2_seed_13 (q := 16) rfl rfl rfl rfl rfl ?_
    refine x_geq kf_seeded ?_
    refine x_iconst hC dX2_seed_16 (q := 17) rfl (v := (1)) (by decide) ?_
    exact x_zret hC hr rfl dX2_seed_17 (Nat.le_of_ble_eq_true rfl) (Nat.le_of_ble_eq_true rfl) ⟨rfl, rfl⟩
  · exact absurd hx (by assumption)

def kDraw (z : Int64) : Int64 := (1103515245 * z + 12345) - (1103515245 * z + 12345) / 2147483648 * 2147483648

set_option maxHeartbeats 4000000 in
set_option maxRecDepth 100000 in
theorem m_X2_drawOf {l : Launch} {s0 : State} {D : va_G} (h0 : x0 l s0 D) (σ : KS) (gF : xG) (x : Int32) (hx : ¬ x.toInt64 = 0) : xMet l s0 D yX2_drawOf cX2_drawOf 2 (some .int) (xr 0 0 0 0) [.ref (kA σ 0 0), .int x] (kmix σ gF) (fun r g1 => r = some (.int (kDraw (kL σ 1 0) / 64 - kDraw (kL σ 1 0) / 64 / x.toInt64 * x.toInt64).toInt32) ∧ g1 = kmix (kLs σ 1 0 (kDraw (kL σ 1 0))) gF) := by
  refine xMet.of h0 (by decide +kernel) rfl ?_
  intro p e s m args below meth c hC hr hnm
  refine x_aloadr_n hC dX2_drawOf_0 (q := 1) rfl rfl ?_
  refine x_ldc2_w hC dX2_drawOf_1 (q := 4) rfl q2030 ?_
  refine x_aloadr_n hC dX2_drawOf_4 (q := 5) rfl rfl ?_
  refine x_get hC xf_X2_48_1 dX2_drawOf_5 (q := 8) rfl (n := (0, 0)) rfl rfl ?_
  refine x_lmul hC dX2_drawOf_8 (q := 9) rfl ?_
  refine x_ldc2_w hC dX2_drawOf_9 (q := 12) rfl q2031 ?_
  refine x_ladd hC dX2_drawOf_12 (q := 13) rfl ?_
  refine x_ldc2_w hC dX2_drawOf_13 (q := 16) rfl q2032 ?_
  refine x_lrem hC dX2_drawOf_16 (q := 17) rfl (by decide) ?_
  refine x_put hC (n := (0, 0)) xf_X2_48_1 xd_1 rfl dX2_drawOf_17 (q := 20) rfl rfl rfl rfl rfl ?_
  refine x_geq kf_seeded ?_
  refine x_aloadr_n hC dX2_drawOf_20 (q := 21) rfl rfl ?_
  refine x_get hC xf_X2_48_1 dX2_drawOf_21 (q := 24) rfl (n := (0, 0)) rfl rfl ?_
  refine x_ldc2_w hC dX2_drawOf_24 (q := 27) rfl q2033 ?_
  refine x_ldiv hC dX2_drawOf_27 (q := 28) rfl (by decide) ?_
  refine x_iload_n hC dX2_drawOf_28 (q := 29) rfl rfl ?_
  refine x_i2l hC dX2_drawOf_29 (q := 30) rfl ?_
  refine x_lrem hC dX2_drawOf_30 (q := 31) rfl hx ?_
  refine x_l2i hC dX2_drawOf_31 (q := 32) rfl ?_
  exact x_iret hC hr dX2_drawOf_32 (Nat.le_of_ble_eq_true rfl) (Nat.le_of_ble_eq_true rfl) ⟨rfl, rfl⟩

set_option maxHeartbeats 4000000 in
set_option maxRecDepth 100000 in
theorem m_X2_isAhead {l : Launch} {s0 : State} {D : va_G} (h0 : x0 l s0 D) (σ : KS) (gF : xG) (x y z : Int32) (h1 : y.toInt ≤ x.toInt ∧ x.toInt ≤ z.toInt) (h2 : iB (kI σ 3 0 + x.toInt)) (h3 : kI σ 3 0 + x.toInt ≤ 999) : xMet l s0 D yX2_isAhead cX2_isAhead 4 (some .boolean) (xr 1 0 0 25) [.ref (kA σ 0 0), .int x, .int y, .int z] (kmix σ gF) (fun r g1 => r = some (.int 1) ∧ g1 = kmix σ gF) := by
  refine xMet.of h0 (by decide +kernel) rfl ?_
  intro p e s m args below meth c hC hr hnm
  refine x_iload_n hC dX2_isAhead_0 (q := 1) rfl rfl ?_
  refine x_i2l hC dX2_isAhead_1 (q := 2) rfl ?_
  refine x_iload_n hC dX2_isAhead_2 (q := 3) rfl rfl ?_
  refine x_i2l hC dX2_isAhead_3 (q := 4) rfl ?_
  refine x_iload_n hC dX2_isAhead_4 (q := 5) rfl rfl ?_
  refine x_i2l hC dX2_isAhead_5 (q := 6) rfl ?_
  refine x_callS hC xv_X2_95 dX2_isAhead_6 (q := 9) rfl rfl (m_isIn_t h0 _ (x := x.toInt) (y := y.toInt) (z := z.toInt) (Int32.toInt_toInt64 x) (Int32.toInt_toInt64 y) (Int32.toInt_toInt64 z) h1) rfl (Nat.le_of_ble_eq_true rfl) ⟨(Nat.le_of_ble_eq_true rfl), (Nat.le_of_ble_eq_true rfl)⟩ ⟨(Nat.le_of_ble_eq_true rfl), (Nat.le_of_ble_eq_true rfl)⟩ (fun v g1 hp => ?_)
  obtain ⟨rfl, hg1⟩ := hp
  replace hg1 := hg1.symm
  subst hg1
  refine x_if_eq hC dX2_isAhead_9 (q := 12) rfl (tgt := 28) rfl (fun h9 => ?_) (fun h9 => ?_)
  · exact absurd h9 (by decide)
  refine x_aloadr_n hC dX2_isAhead_12 (q := 13) rfl rfl ?_
  refine x_get hC xf_X2_119_1 dX2_isAhead_13 (q := 16) rfl (n := (0, 0)) rfl rfl ?_
  refine x_iload_n hC dX2_isAhead_16 (q := 17) rfl rfl ?_
  refine x_iadd hC dX2_isAhead_17 (q := 18) rfl ?_
  refine x_sipush hC dX2_isAhead_18 (q := 21) rfl (v := (999)) (by decide) ?_
  refine x_icmp_gt hC dX2_isAhead_21 (q := 24) rfl (tgt := 28) rfl (fun h21 => ?_) (fun h21 => ?_)
  · exact absurd h21 (by rw [show iI (kI σ 3 0) + x = iI (kI σ 3 0 + x.toInt) by rw [← iI_add, iI_self], show (999 : Int32) = iI 999 from rfl, iI_lt ⟨by decide, by decide⟩ h2]; omega)
  refine x_iconst hC dX2_isAhead_24 (q := 25) rfl (v := (1)) (by decide) ?_
  refine x_goto hC dX2_isAhead_25 (tgt := 29) rfl ?_
  exact x_zret hC hr rfl dX2_isAhead_29 (Nat.le_of_ble_eq_true rfl) (Nat.le_of_ble_eq_true rfl) ⟨rfl, rfl⟩

set_option maxHeartbeats 4000000 in
set_option maxRecDepth 100000 in
theorem m_X2_kept {l : Launch} {s0 : State} {D : va_G} (h0 : x0 l s0 D) (σ : KS) (gF : xG) (hw : KW σ) (k j : Nat) (hk : k < kA σ 63 0) (hj : j < 4) : xMet l s0 D yX2_kept cX2_kept 3 (some .int) (xr 3 0 0 64) [.ref (kA σ 0 0), .int (nI k), .int (nI j)] (kmix σ gF) (fun r g1 => r = some (.int (iI (kV σ 2 k j))) ∧ g1 = kmix σ gF) := by
  refine xMet.of h0 (by decide +kernel) rfl ?_
  intro p e s m args below meth c hC hr hnm
  refine x_iload_n hC dX2_kept_0 (q := 1) rfl rfl ?_
  refine x_i2l hC dX2_kept_1 (q := 2) rfl ?_
  refine x_lconst hC dX2_kept_2 (q := 3) rfl (v := 0) (by decide) ?_
  refine x_aloadr_n hC dX2_kept_3 (q := 4) rfl rfl ?_
  refine x_get hC xf_X2_31_1 dX2_kept_4 (q := 7) rfl (n := (0, 0)) rfl rfl ?_
  refine x_callV hC xv_X2_136 dX2_kept_7 (q := 10) rfl rfl (m_J3_size h0 _ (n := (10, 0)) rfl) (nn := (10, 0)) rfl rfl rfl (Nat.le_of_ble_eq_true rfl) ⟨(Nat.le_of_ble_eq_true rfl), (Nat.le_of_ble_eq_true rfl)⟩ ⟨(Nat.le_of_ble_eq_true rfl), (Nat.le_of_ble_eq_true rfl)⟩ (fun v g1 hp => ?_)
  obtain ⟨rfl, hg1⟩ := hp
  replace hg1 := hg1.symm
  subst hg1
  refine x_iconst hC dX2_kept_10 (q := 11) rfl (v := (1)) (by decide) ?_
  refine x_isub hC dX2_kept_11 (q := 12) rfl ?_
  refine x_i2l hC dX2_kept_12 (q := 13) rfl ?_
  refine x_callS hC xv_X2_95 dX2_kept_13 (q := 16) rfl rfl (m_isIn_t h0 _ (x := k) (y := 0) (z := (kA σ 63 0 : Int) - 1) (nI64 (by have := hw.c63; omega)) rfl (nI64p (by have := hw.c63; omega)) (by omega)) rfl (Nat.le_of_ble_eq_true rfl) ⟨(Nat.le_of_ble_eq_true rfl), (Nat.le_of_ble_eq_true rfl)⟩ ⟨(Nat.le_of_ble_eq_true rfl), (Nat.le_of_ble_eq_true rfl)⟩ (fun v g1 hp => ?_)
  obtain ⟨rfl, hg1⟩ := hp
  replace hg1 := hg1.symm
  subst hg1
  refine x_if_eq hC dX2_kept_16 (q := 19) rfl (tgt := 47) rfl (fun h16 => ?_) (fun h16 => ?_)
  · exact absurd h16 (by decide)
  refine x_iload_n hC dX2_kept_19 (q := 20) rfl rfl ?_
  refine x_i2l hC dX2_kept_20 (q := 21) rfl ?_
  refine x_lconst hC dX2_kept_21 (q := 22) rfl (v := 0) (by decide) ?_
  refine x_ldc2_w hC dX2_kept_22 (q := 25) rfl q1763 ?_
  refine x_callS hC xv_X2_95 dX2_kept_25 (q := 28) rfl rfl (m_isIn_t h0 _ (x := j) (y := 0) (z := 3) (nI64 (by omega)) rfl rfl (by omega)) rfl (Nat.le_of_ble_eq_true rfl) ⟨(Nat.le_of_ble_eq_true rfl), (Nat.le_of_ble_eq_true rfl)⟩ ⟨(Nat.le_of_ble_eq_true rfl), (Nat.le_of_ble_eq_true rfl)⟩ (fun v g1 hp => ?_)
  obtain ⟨rfl, hg1⟩ := hp
  replace hg1 := hg1.symm
  subst hg1
  refine x_if_eq hC dX2_kept_28 (q := 31) rfl (tgt := 47) rfl (fun h28 => ?_) (fun h28 => ?_)
  · exact absurd h28 (by decide)
  refine x_aloadr_n hC dX2_kept_31 (q := 32) rfl rfl ?_
  refine x_get hC xf_X2_31_1 dX2_kept_32 (q := 35) rfl (n := (0, 0)) rfl rfl ?_
  refine x_iload_n hC dX2_kept_35 (q := 36) rfl rfl ?_
  refine x_callV hC xv_X2_139 dX2_kept_36 (q := 39) rfl rfl (m_J3_get h0 _ (n := (10, 0)) (nd := (11, 0)) rfl (kg_11 (by have := hw.c63; omega)) (j := k) rfl (sz := kA σ 63 0) rfl hk hw.c63.1 (by have := hw.c63; omega)) (nn := (10, 0)) rfl rfl rfl (Nat.le_of_ble_eq_true rfl) ⟨(Nat.le_of_ble_eq_true rfl), (Nat.le_of_ble_eq_true rfl)⟩ ⟨(Nat.le_of_ble_eq_true rfl), (Nat.le_of_ble_eq_true rfl)⟩ (fun v g1 hp => ?_)
  rw [if_pos hk] at hp
  obtain ⟨rfl, hg1⟩ := hp
  replace hg1 := hg1.symm
  subst hg1
  refine x_castA hC q1764 (by dsimp only; decide) dX2_kept_39 (q := 42) rfl (n := (12, k)) rfl (kg_12 k (Or.inl hk)) ?_
  refine x_iload_n hC dX2_kept_42 (q := 43) rfl rfl ?_
  refine x_iald hC dX2_kept_43 (q := 44) rfl (n := (12, k)) (kg_12 k (Or.inl hk)) rfl hj (by decide) ?_
  refine x_goto hC dX2_kept_44 (tgt := 48) rfl ?_
  exact x_iret hC hr dX2_kept_48 (Nat.le_of_ble_eq_true rfl) (Nat.le_of_ble_eq_true rfl) ⟨rfl, rfl⟩

def kPl (σ : KS) (kq pl : Nat) : Int32 := if pl < kA σ 25 kq then (match kO σ 1 kq pl with
  | none => -1
  | some c => nI c) else -1

set_option maxHeartbeats 4000000 in
set_option maxRecDepth 100000 in
theorem m_X2_place_f {l : Launch} {s0 : State} {D : va_G} (h0 : x0 l s0 D) (σ : KS) (gF : xG) (hw : KW σ) (kq : Nat) (hq : kq < kA σ 62 0) (pl : Nat) (hp1 : kA σ 25 kq ≤ pl) (hp2 : pl < 2147483648) : xMet l s0 D yX2_place cX2_place 4 (some .int) (xr 5 0 0 106) [.ref (kA σ 0 0), .int (nI kq), .int (nI pl)] (kmix σ gF) (fun r g1 => r = some (.int (-1)) ∧ g1 = kmix σ gF) := by
  refine xMet.of h0 (by decide +kernel) rfl ?_
  intro p e s m args below meth c hC hr hnm
  refine x_aloadr_n hC dX2_place_0 (q := 1) rfl rfl ?_
  refine x_iload_n hC dX2_place_1 (q := 2) rfl rfl ?_
  refine x_callV hC xv_X2_317 dX2_place_2 (q := 5) rfl rfl (m_X2_kilnOf h0 σ gF hw kq hq) (nn := (0, 0)) rfl rfl rfl (Nat.le_of_ble_eq_true rfl) ⟨(Nat.le_of_ble_eq_true rfl), (Nat.le_of_ble_eq_true rfl)⟩ ⟨(Nat.le_of_ble_eq_true rfl), (Nat.le_of_ble_eq_true rfl)⟩ (fun v g1 hp => ?_)
  obtain ⟨rfl, hg1⟩ := hp
  replace hg1 := hg1.symm
  subst hg1
  refine x_astorer_n hC dX2_place_5 (q := 6) rfl rfl ?_
  refine x_aloadr_n hC dX2_place_6 (q := 7) rfl rfl ?_
  refine x_ifnull_r hC dX2_place_7 (q := 10) rfl ?_
  refine x_iload_n hC dX2_place_10 (q := 11) rfl rfl ?_
  refine x_i2l hC dX2_place_11 (q := 12) rfl ?_
  refine x_lconst hC dX2_place_12 (q := 13) rfl (v := 0) (by decide) ?_
  refine x_aloadr_n hC dX2_place_13 (q := 14) rfl rfl ?_
  refine x_get hC xf_X2_214_6 dX2_place_14 (q := 17) rfl (n := (21, kq)) (kg_21 kq hq) rfl ?_
  refine x_iconst hC dX2_place_17 (q := 18) rfl (v := (1)) (by decide) ?_
  refine x_isub hC dX2_place_18 (q := 19) rfl ?_
  refine x_i2l hC dX2_place_19 (q := 20) rfl ?_
  refine x_callS hC xv_X2_95 dX2_place_20 (q := 23) rfl rfl (m_isIn_f h0 _ (x := pl) (y := 0) (z := (kA σ 25 kq : Int) - 1) (nI64 (by have := hw.2.2.2.1 kq hq; omega)) rfl (nI64p (by have := hw.2.2.2.1 kq hq; omega)) (by omega)) rfl (Nat.le_of_ble_eq_true rfl) ⟨(Nat.le_of_ble_eq_true rfl), (Nat.le_of_ble_eq_true rfl)⟩ ⟨(Nat.le_of_ble_eq_true rfl), (Nat.le_of_ble_eq_true rfl)⟩ (fun v g1 hp => ?_)
  obtain ⟨rfl, hg1⟩ := hp
  replace hg1 := hg1.symm
  subst hg1
  refine x_if_eq hC dX2_place_23 (q := 26) rfl (tgt := 35) rfl (fun h23 => ?_) (fun h23 => ?_)
  · refine x_iconst hC dX2_place_35 (q := 36) rfl (v := (-1)) (by decide) ?_
    refine x_goto hC dX2_place_36 (tgt := 48) rfl ?_
    exact x_iret hC hr dX2_place_48 (Nat.le_of_ble_eq_true rfl) (Nat.le_of_ble_eq_true rfl) ⟨rfl, rfl⟩
  · exact absurd rfl h23

set_option maxHeartbeats 4000000 in
set_option maxRecDepth 100000 in
theorem m_X2_place_n {l : Launch} {s0 : State} {D : va_G} (h0 : x0 l s0 D) (σ : KS) (gF : xG) (hw : KW σ) (kq : Nat) (hq : kq < kA σ 62 0) (pl : Nat) (hp1 : pl < kA σ 25 kq) (hn : kO σ 1 kq pl = none) : xMet l s0 D yX2_place cX2_place 4 (some .int) (xr 5 0 0 106) [.ref (kA σ 0 0), .int (nI kq), .int (nI pl)] (kmix σ gF) (fun r g1 => r = some (.int (-1)) ∧ g1 = kmix σ gF) := by
  refine xMet.of h0 (by decide +kernel) rfl ?_
  intro p e s m args below meth c hC hr hnm
  refine x_aloadr_n hC dX2_place_0 (q := 1) rfl rfl ?_
  refine x_iload_n hC dX2_place_1 (q := 2) rfl rfl ?_
  refine x_callV hC xv_X2_317 dX2_place_2 (q := 5) rfl rfl (m_X2_kilnOf h0 σ gF hw kq hq) (nn := (0, 0)) rfl rfl rfl (Nat.le_of_ble_eq_true rfl) ⟨(Nat.le_of_ble_eq_true rfl), (Nat.le_of_ble_eq_true rfl)⟩ ⟨(Nat.le_of_ble_eq_true rfl), (Nat.le_of_ble_eq_true rfl)⟩ (fun v g1 hp => ?_)
  obtain ⟨rfl, hg1⟩ := hp
  replace hg1 := hg1.symm
  subst hg1
  refine x_astorer_n hC dX2_place_5 (q := 6) rfl rfl ?_
  refine x_aloadr_n hC dX2_place_6 (q := 7) rfl rfl ?_
  refine x_ifnull_r hC dX2_place_7 (q := 10) rfl ?_
  refine x_iload_n hC dX2_place_10 (q := 11) rfl rfl ?_
  refine x_i2l hC dX2_place_11 (q := 12) rfl ?_
  refine x_lconst hC dX2_place_12 (q := 13) rfl (v := 0) (by decide) ?_
  refine x_aloadr_n hC dX2_place_13 (q := 14) rfl rfl ?_
  refine x_get hC xf_X2_214_6 dX2_place_14 (q := 17) rfl (n := (21, kq)) (kg_21 kq hq) rfl ?_
  refine x_iconst hC dX2_place_17 (q := 18) rfl (v := (1)) (by decide) ?_
  refine x_isub hC dX2_place_18 (q := 19) rfl ?_
  refine x_i2l hC dX2_place_19 (q := 20) rfl ?_
  refine x_callS hC xv_X2_95 dX2_place_20 (q := 23) rfl rfl (m_isIn_t h0 _ (x := pl) (y := 0) (z := (kA σ 25 kq : Int) - 1) (nI64 (by have := hw.2.2.2.1 kq hq; omega)) rfl (nI64p (by have := hw.2.2.2.1 kq hq; omega)) (by omega)) rfl (Nat.le_of_ble_eq_true rfl) ⟨(Nat.le_of_ble_eq_true rfl), (Nat.le_of_ble_eq_true rfl)⟩ ⟨(Nat.le_of_ble_eq_true rfl), (Nat.le_of_ble_eq_true rfl)⟩ (fun v g1 hp => ?_)
  obtain ⟨rfl, hg1⟩ := hp
  replace hg1 := hg1.symm
  subst hg1
  refine x_if_eq hC dX2_place_23 (q := 26) rfl (tgt := 35) rfl (fun h23 => ?_) (fun h23 => ?_)
  · exact absurd h23 (by decide)
  refine x_aloadr_n hC dX2_place_26 (q := 27) rfl rfl ?_
  refine x_get hC xf_X2_324_6 dX2_place_27 (q := 30) rfl (n := (21, kq)) (kg_21 kq hq) rfl ?_
  refine x_iload_n hC dX2_place_30 (q := 31) rfl rfl ?_
  refine x_aald hC dX2_place_31 (q := 32) rfl (n := (22, kq)) (kg_22 kq hq) rfl (by have := hw.2.2.2.1 kq hq; omega) (by decide) rfl ?_
  refine x_ifnonnull hC dX2_place_32 (q := 35) rfl (tgt := 39) rfl (fun a32 h32 => ?_) (fun h32 => ?_)
  · exact absurd h32 (by simp [hn])
  refine x_iconst hC dX2_place_35 (q := 36) rfl (v := (-1)) (by decide) ?_
  refine x_goto hC dX2_place_36 (tgt := 48) rfl ?_
  exact x_iret hC hr dX2_place_48 (Nat.le_of_ble_eq_true rfl) (Nat.le_of_ble_eq_true rfl) ⟨rfl, rfl⟩

set_option maxHeartbeats 4000000 in
set_option maxRecDepth 100000 in
theorem m_X2_place_s {l : Launch} {s0 : State} {D : va_G} (h0 : x0 l s0 D) (σ : KS) (gF : xG) (hw : KW σ) (kq : Nat) (hq : kq < kA σ 62 0) (pl : Nat) (hp1 : pl < kA σ 25 kq) {ch : Nat} (hc : ch < kA σ 61 0) (hn : kO σ 1 kq pl = some ch) : xMet l s0 D yX2_place cX2_place 4 (some .int) (xr 5 0 0 106) [.ref (kA σ 0 0), .int (nI kq), .int (nI pl)] (kmix σ gF) (fun r g1 => r = some (.int (nI ch)) ∧ g1 = kmix σ gF) := by
  refine xMet.of h0 (by decide +kernel) rfl ?_
  intro p e s m args below meth c hC hr hnm
  refine x_aloadr_n hC dX2_place_0 (q := 1) rfl rfl ?_
  refine x_iload_n hC dX2_place_1 (q := 2) rfl rfl ?_
  refine x_callV hC xv_X2_317 dX2_place_2 (q := 5) rfl rfl (m_X2_kilnOf h0 σ gF hw kq hq) (nn := (0, 0)) rfl rfl rfl (Nat.le_of_ble_eq_true rfl) ⟨(Nat.le_of_ble_eq_true rfl), (Nat.le_of_ble_eq_true rfl)⟩ ⟨(Nat.le_of_ble_eq_true rfl), (Nat.le_of_ble_eq_true rfl)⟩ (fun v g1 hp => ?_)
  obtain ⟨rfl, hg1⟩ := hp
  replace hg1 := hg1.symm
  subst hg1
  refine x_astorer_n hC dX2_place_5 (q := 6) rfl rfl ?_
  refine x_aloadr_n hC dX2_place_6 (q := 7) rfl rfl ?_
  refine x_ifnull_r hC dX2_place_7 (q := 10) rfl ?_
  refine x_iload_n hC dX2_place_10 (q := 11) rfl rfl ?_
  refine x_i2l hC dX2_place_11 (q := 12) rfl ?_
  refine x_lconst hC dX2_place_12 (q := 13) rfl (v := 0) (by decide) ?_
  refine x_aloadr_n hC dX2_place_13 (q := 14) rfl rfl ?_
  refine x_get hC xf_X2_214_6 dX2_place_14 (q := 17) rfl (n := (21, kq)) (kg_21 kq hq) rfl ?_
  refine x_iconst hC dX2_place_17 (q := 18) rfl (v := (1)) (by decide) ?_
  refine x_isub hC dX2_place_18 (q := 19) rfl ?_
  refine x_i2l hC dX2_place_19 (q := 20) rfl ?_
  refine x_callS hC xv_X2_95 dX2_place_20 (q := 23) rfl rfl (m_isIn_t h0 _ (x := pl) (y := 0) (z := (kA σ 25 kq : Int) - 1) (nI64 (by have := hw.2.2.2.1 kq hq; omega)) rfl (nI64p (by have := hw.2.2.2.1 kq hq; omega)) (by omega)) rfl (Nat.le_of_ble_eq_true rfl) ⟨(Nat.le_of_ble_eq_true rfl), (Nat.le_of_ble_eq_true rfl)⟩ ⟨(Nat.le_of_ble_eq_true rfl), (Nat.le_of_ble_eq_true rfl)⟩ (fun v g1 hp => ?_)
  obtain ⟨rfl, hg1⟩ := hp
  replace hg1 := hg1.symm
  subst hg1
  refine x_if_eq hC dX2_place_23 (q := 26) rfl (tgt := 35) rfl (fun h23 => ?_) (fun h23 => ?_)
  · exact absurd h23 (by decide)
  refine x_aloadr_n hC dX2_place_26 (q := 27) rfl rfl ?_
  refine x_get hC xf_X2_324_6 dX2_place_27 (q := 30) rfl (n := (21, kq)) (kg_21 kq hq) rfl ?_
  refine x_iload_n hC dX2_place_30 (q := 31) rfl rfl ?_
  refine x_aald hC dX2_place_31 (q := 32) rfl (n := (22, kq)) (kg_22 kq hq) rfl (by have := hw.2.2.2.1 kq hq; omega) (by decide) rfl ?_
  refine x_ifnonnull hC dX2_place_32 (q := 35) rfl (tgt := 39) rfl (fun a32 h32 => ?_) (fun h32 => ?_)
  · refine x_aloadr_n hC dX2_place_39 (q := 40) rfl rfl ?_
    refine x_get hC xf_X2_324_6 dX2_place_40 (q := 43) rfl (n := (21, kq)) (kg_21 kq hq) rfl ?_
    refine x_iload_n hC dX2_place_43 (q := 44) rfl rfl ?_
    refine x_aald hC dX2_place_44 (q := 45) rfl (n := (22, kq)) (kg_22 kq hq) rfl (by have := hw.2.2.2.1 kq hq; omega) (by decide) rfl ?_
    refine x_steq (st1 := [.ref (kA σ 20 ch)]) (by rw [hn]; rfl) ?_
    refine x_get hC xf_X2_376_5 dX2_place_45 (q := 48) rfl (n := (20, ch)) (kg_20 ch hc) rfl ?_
    exact x_iret hC hr dX2_place_48 (Nat.le_of_ble_eq_true rfl) (Nat.le_of_ble_eq_true rfl) ⟨rfl, rfl⟩
  · exact absurd h32 (by simp [hn])

theorem m_X2_place {l : Launch} {s0 : State} {D : va_G} (h0 : x0 l s0 D) (σ : KS) (gF : xG) (hw : KW σ) (kq : Nat) (hq : kq < kA σ 62 0) (pl : Nat) (hp : pl < 2147483648) : xMet l s0 D yX2_place cX2_place 4 (some .int) (xr 5 0 0 106) [.ref (kA σ 0 0), .int (nI kq), .int (nI pl)] (kmix σ gF) (fun r g1 => r = some (.int (kPl σ kq pl)) ∧ g1 = kmix σ gF) := by
  unfold kPl
  by_cases h : pl < kA σ 25 kq
  · rw [if_pos h]
    cases hn : kO σ 1 kq pl with
    | none => exact m_X2_place_n h0 σ gF hw kq hq pl h hn
    | some ch => exact m_X2_place_s h0 σ gF hw kq hq pl h (hw.2.2.2.2.2 kq pl ch hq hn) hn
  · rw [if_neg h]
    exact m_X2_place_f h0 σ gF hw kq hq pl (by omega) hp

set_option maxHeartbeats 4000000 in
set_option maxRecDepth 100000 in
theorem m_X2_place_out {l : Launch} {s0 : State} {D : va_G} (h0 : x0 l s0 D) (σ : KS) (gF : xG) (hw : KW σ) (x y : Int32) (hx : x.toInt < 0 ∨ (kA σ 62 0 : Int) ≤ x.toInt) : xMet l s0 D yX2_place cX2_place 4 (some .int) (xr 5 0 0 106) [.ref (kA σ 0 0), .int x, .int y] (kmix σ gF) (fun r g1 => r = some (.int (-1)) ∧ g1 = kmix σ gF) := by
  refine xMet.of h0 (by decide +kernel) rfl ?_
  intro p e s m args below meth c hC hr hnm
  refine x_aloadr_n hC dX2_place_0 (q := 1) rfl rfl ?_
  refine x_iload_n hC dX2_place_1 (q := 2) rfl rfl ?_
  refine x_callV hC xv_X2_317 dX2_place_2 (q := 5) rfl rfl (m_X2_kilnOf_out h0 σ gF hw x hx) (nn := (0, 0)) rfl rfl rfl (Nat.le_of_ble_eq_true rfl) ⟨(Nat.le_of_ble_eq_true rfl), (Nat.le_of_ble_eq_true rfl)⟩ ⟨(Nat.le_of_ble_eq_true rfl), (Nat.le_of_ble_eq_true rfl)⟩ (fun v g1 hp => ?_)
  obtain ⟨rfl, hg1⟩ := hp
  replace hg1 := hg1.symm
  subst hg1
  refine x_astoren_n hC dX2_place_5 (q := 6) rfl rfl ?_
  refine x_aload_n hC dX2_place_6 (q := 7) rfl rfl (Or.inl rfl) ?_
  refine x_ifnull_n hC dX2_place_7 (tgt := 35) rfl ?_
  refine x_iconst hC dX2_place_35 (q := 36) rfl (v := (-1)) (by decide) ?_
  refine x_goto hC dX2_place_36 (tgt := 48) rfl ?_
  exact x_iret hC hr dX2_place_48 (Nat.le_of_ble_eq_true rfl) (Nat.le_of_ble_eq_true rfl) ⟨rfl, rfl⟩

set_option maxHeartbeats 4000000 in
set_option maxRecDepth 100000 in
theorem m_X8_goesOut_n {l : Launch} {s0 : State} {D : va_G} (h0 : x0 l s0 D) (σ : KS) (gF : xG) (ch : Nat) (hc : ch < kA σ 61 0) (hn : kO σ 0 ch 0 = none) : xMet l s0 D yX8_goesOut cX8_goesOut 1 none (xr 0 0 0 0) [.ref (kA σ 20 ch)] (kmix σ gF) (fun r g1 => r = none ∧ g1 = kmix (kIs (kOs σ 0 ch 0 none) 33 ch (-1)) gF) := by
  refine xMet.of h0 (by decide +kernel) rfl ?_
  intro p e s m args below meth c hC hr hnm
  refine x_aloadr_n hC dX8_goesOut_0 (q := 1) rfl rfl ?_
  refine x_get hC xf_X8_18_5 dX8_goesOut_1 (q := 4) rfl (n := (20, ch)) (kg_20 ch hc) rfl ?_
  refine x_ifnull hC dX8_goesOut_4 (q := 7) rfl (tgt := 20) rfl (fun h4 => ?_) (fun a4 h4 => ?_)
  · refine x_aloadr_n hC dX8_goesOut_20 (q := 21) rfl rfl ?_
    refine x_null hC dX8_goesOut_21 (q := 22) rfl ?_
    refine x_put hC (n := (20, ch)) xf_X8_18_5 xd_5 rfl dX8_goesOut_22 (q := 25) rfl (kg_20 ch hc) rfl rfl rfl ?_
    refine x_geq (kf_ckiln (r := none) (z := none) rfl hc) ?_
    refine x_aloadr_n hC dX8_goesOut_25 (q := 26) rfl rfl ?_
    refine x_iconst hC dX8_goesOut_26 (q := 27) rfl (v := (-1)) (by decide) ?_
    refine x_put hC (n := (20, ch)) xf_X8_9_5 xd_5 rfl dX8_goesOut_27 (q := 30) rfl (kg_20 ch hc) rfl rfl rfl ?_
    refine x_geq (kf_place (z := -1) (by decide) hc) ?_
    exact x_vret hC hr dX8_goesOut_30 (Nat.le_of_ble_eq_true rfl) (Nat.le_of_ble_eq_true rfl) ⟨rfl, rfl⟩
  · exact absurd h4 (by simp [hn])

set_option maxHeartbeats 4000000 in
set_option maxRecDepth 100000 in
theorem m_X8_goesOut_s {l : Launch} {s0 : State} {D : va_G} (h0 : x0 l s0 D) (σ : KS) (gF : xG) (ch : Nat) (hc : ch < kA σ 61 0) {kq pl : Nat} (hq : kq < kA σ 62 0) (hn : kO σ 0 ch 0 = some kq) (hp1 : kI σ 33 ch = pl) (hp2 : pl < 6) : xMet l s0 D yX8_goesOut cX8_goesOut 1 none (xr 0 0 0 0) [.ref (kA σ 20 ch)] (kmix σ gF) (fun r g1 => r = none ∧ g1 = kmix (kIs (kOs (kOs σ 1 kq pl none) 0 ch 0 none) 33 ch (-1)) gF) := by
  refine xMet.of h0 (by decide +kernel) rfl ?_
  intro p e s m args below meth c hC hr hnm
  refine x_aloadr_n hC dX8_goesOut_0 (q := 1) rfl rfl ?_
  refine x_get hC xf_X8_18_5 dX8_goesOut_1 (q := 4) rfl (n := (20, ch)) (kg_20 ch hc) rfl ?_
  refine x_ifnull hC dX8_goesOut_4 (q := 7) rfl (tgt := 20) rfl (fun h4 => ?_) (fun a4 h4 => ?_)
  · exact absurd h4 (by simp [hn])
  refine x_aloadr_n hC dX8_goesOut_7 (q := 8) rfl rfl ?_
  refine x_get hC xf_X8_18_5 dX8_goesOut_8 (q := 11) rfl (n := (20, ch)) (kg_20 ch hc) rfl ?_
  refine x_steq (st1 := [.ref (kA σ 21 kq)]) (by rw [hn]; rfl) ?_
  refine x_get hC xf_X8_27_6 dX8_goesOut_11 (q := 14) rfl (n := (21, kq)) (kg_21 kq hq) rfl ?_
  refine x_aloadr_n hC dX8_goesOut_14 (q := 15) rfl rfl ?_
  refine x_get hC xf_X8_9_5 dX8_goesOut_15 (q := 18) rfl (n := (20, ch)) (kg_20 ch hc) rfl ?_
  refine x_null hC dX8_goesOut_18 (q := 19) rfl ?_
  refine x_aastn hC dX8_goesOut_19 (q := 20) rfl (n := (22, kq)) rfl (kg_22 kq hq) (j := pl) (by rw [hp1, iI_nat]) hp2 (by decide) ?_
  refine x_geq (kf_places (r := none) (z := none) rfl hq) ?_
  refine x_aloadr_n hC dX8_goesOut_20 (q := 21) rfl rfl ?_
  refine x_null hC dX8_goesOut_21 (q := 22) rfl ?_
  refine x_put hC (n := (20, ch)) xf_X8_18_5 xd_5 rfl dX8_goesOut_22 (q := 25) rfl (kg_20 ch hc) rfl rfl rfl ?_
  refine x_geq (kf_ckiln (r := none) (z := none) rfl hc) ?_
  refine x_aloadr_n hC dX8_goesOut_25 (q := 26) rfl rfl ?_
  refine x_iconst hC dX8_goesOut_26 (q := 27) rfl (v := (-1)) (by decide) ?_
  refine x_put hC (n := (20, ch)) xf_X8_9_5 xd_5 rfl dX8_goesOut_27 (q := 30) rfl (kg_20 ch hc) rfl rfl rfl ?_
  refine x_geq (kf_place (z := -1) (by decide) hc) ?_
  exact x_vret hC hr dX8_goesOut_30 (Nat.le_of_ble_eq_true rfl) (Nat.le_of_ble_eq_true rfl) ⟨rfl, rfl⟩

set_option maxHeartbeats 4000000 in
set_option maxRecDepth 100000 in
theorem m_X8_goesIn_n {l : Launch} {s0 : State} {D : va_G} (h0 : x0 l s0 D) (σ : KS) (gF : xG) (ch : Nat) (hc : ch < kA σ 61 0) (x : Int32) : xMet l s0 D yX8_goesIn cX8_goesIn 3 none (xr 0 0 0 0) [.ref (kA σ 20 ch), .null, .int x] (kmix σ gF) (fun r g1 => r = none ∧ g1 = kmix (kIs (kOs σ 0 ch 0 none) 33 ch (-1)) gF) := by
  refine xMet.of h0 (by decide +kernel) rfl ?_
  intro p e s m args below meth c hC hr hnm
  refine x_aloadr_n hC dX8_goesIn_0 (q := 1) rfl rfl ?_
  refine x_aload_n hC dX8_goesIn_1 (q := 2) rfl rfl (Or.inl rfl) ?_
  refine x_put hC (n := (20, ch)) xf_X8_18_5 xd_5 rfl dX8_goesIn_2 (q := 5) rfl (kg_20 ch hc) rfl rfl rfl ?_
  refine x_geq (kf_ckiln (r := none) (z := none) rfl hc) ?_
  refine x_aloadr_n hC dX8_goesIn_5 (q := 6) rfl rfl ?_
  refine x_aload_n hC dX8_goesIn_6 (q := 7) rfl rfl (Or.inl rfl) ?_
  refine x_ifnonnull_n hC dX8_goesIn_7 (q := 10) rfl ?_
  refine x_iconst hC dX8_goesIn_10 (q := 11) rfl (v := (-1)) (by decide) ?_
  refine x_goto hC dX8_goesIn_11 (tgt := 15) rfl ?_
  refine x_put hC (n := (20, ch)) xf_X8_9_5 xd_5 rfl dX8_goesIn_15 (q := 18) rfl (kg_20 ch hc) rfl rfl rfl ?_
  refine x_geq (kf_place (z := -1) (by decide) hc) ?_
  refine x_aload_n hC dX8_goesIn_18 (q := 19) rfl rfl (Or.inl rfl) ?_
  refine x_ifnull_n hC dX8_goesIn_19 (tgt := 29) rfl ?_
  exact x_vret hC hr dX8_goesIn_29 (Nat.le_of_ble_eq_true rfl) (Nat.le_of_ble_eq_true rfl) ⟨rfl, rfl⟩

set_option maxHeartbeats 4000000 in
set_option maxRecDepth 100000 in
theorem m_X8_goesIn_s {l : Launch} {s0 : State} {D : va_G} (h0 : x0 l s0 D) (σ : KS) (gF : xG) (ch : Nat) (hc : ch < kA σ 61 0) {kq pl : Nat} (hq : kq < kA σ 62 0) (hp2 : pl < 6) : xMet l s0 D yX8_goesIn cX8_goesIn 3 none (xr 0 0 0 0) [.ref (kA σ 20 ch), .ref (kA σ 21 kq), .int (nI pl)] (kmix σ gF) (fun r g1 => r = none ∧ g1 = kmix (kOs (kIs (kOs σ 0 ch 0 (some kq)) 33 ch pl) 1 kq pl (some ch)) gF) := by
  refine xMet.of h0 (by decide +kernel) rfl ?_
  intro p e s m args below meth c hC hr hnm
  refine x_aloadr_n hC dX8_goesIn_0 (q := 1) rfl rfl ?_
  refine x_aloadr_n hC dX8_goesIn_1 (q := 2) rfl rfl ?_
  refine x_put hC (n := (20, ch)) xf_X8_18_5 xd_5 rfl dX8_goesIn_2 (q := 5) rfl (kg_20 ch hc) rfl rfl rfl ?_
  refine x_geq (kf_ckiln (r := some (kA σ 21 kq)) (z := some kq) rfl hc) ?_
  refine x_aloadr_n hC dX8_goesIn_5 (q := 6) rfl rfl ?_
  refine x_aloadr_n hC dX8_goesIn_6 (q := 7) rfl rfl ?_
  refine x_ifnonnull_r hC dX8_goesIn_7 (tgt := 14) rfl ?_
  refine x_iload_n hC dX8_goesIn_14 (q := 15) rfl rfl ?_
  refine x_put hC (n := (20, ch)) xf_X8_9_5 xd_5 rfl dX8_goesIn_15 (q := 18) rfl (kg_20 ch hc) rfl rfl rfl ?_
  refine x_geq (kf_place (z := pl) (iI_nat pl).symm hc) ?_
  refine x_aloadr_n hC dX8_goesIn_18 (q := 19) rfl rfl ?_
  refine x_ifnull_r hC dX8_goesIn_19 (q := 22) rfl ?_
  refine x_aloadr_n hC dX8_goesIn_22 (q := 23) rfl rfl ?_
  refine x_get hC xf_X8_27_6 dX8_goesIn_23 (q := 26) rfl (n := (21, kq)) (kg_21 kq hq) rfl ?_
  refine x_iload_n hC dX8_goesIn_26 (q := 27) rfl rfl ?_
  refine x_aloadr_n hC dX8_goesIn_27 (q := 28) rfl rfl ?_
  refine x_aast hC dX8_goesIn_28 (q := 29) rfl (n := (22, kq)) (n2 := (20, ch)) rfl (kg_22 kq hq) rfl (kg_20 ch hc) (Or.inr ⟨⟨_, rfl⟩, rfl⟩) (j := pl) rfl hp2 (by decide) ?_
  refine x_geq (kf_places (r := some (kA σ 20 ch)) (z := some ch) rfl hq) ?_
  exact x_vret hC hr dX8_goesIn_29 (Nat.le_of_ble_eq_true rfl) (Nat.le_of_ble_eq_true rfl) ⟨rfl, rfl⟩
