/-! the law's numbers -/
theorem rem_iI {X : Int} {n : Nat} (hX : iB X) (h0 : 0 < n) (hn : n < 100000) : iI X - iI X / nI n * nI n = iI (X.tmod n) := by
  have h1 : (nI n).toInt = n := nI_toInt (by omega)
  have h2 : iI X / nI n = iI (X.tdiv n) := by
    have h3 : (iI X / nI n).toInt = X.tdiv n := by
      rw [Int32.toInt_div_of_ne_right _ _ (fun q => by
        have := congrArg Int32.toInt q
        rw [h1] at this
        exact absurd this (by show ¬ (n : Int) = -1; omega)), iI_toInt hX, h1]
    rw [← h3, iI_self]
  rw [h2, ← iI_nat, iI_mul, iI_sub, Int.tmod_def]
  congr 1
  rw [Int.mul_comm]
theorem xor_sg (x y : Int32) (hy : 0 ≤ y.toInt) : (0 ≤ x ^^^ y) ↔ 0 ≤ x.toInt := by
  have h : ∀ z : Int32, z.toBitVec.msb = decide (z.toInt < 0) := fun z => BitVec.msb_eq_toInt
  have e : (x ^^^ y).toBitVec.msb = (x.toBitVec.msb ^^ y.toBitVec.msb) := by rw [Int32.toBitVec_xor, BitVec.msb_xor]
  rw [h, h, h, decide_eq_false (show ¬ y.toInt < 0 by omega), Bool.xor_false] at e
  have e2 : (x ^^^ y).toInt < 0 ↔ x.toInt < 0 := decide_eq_decide.mp e
  rw [Int32.le_iff_toInt_le]
  show (0 : Int) ≤ _ ↔ _
  omega
/-- what a script's number picks out of n -/
def pk (x : Int32) (n : Nat) : Nat := (jmod32 x (nI n)).toInt.toNat
theorem pk_ok (x : Int32) {n : Nat} (h0 : 0 < n) (hn : n < 100000) : pk x n < n ∧ jmod32 x (nI n) = nI (pk x n) := by
  have hb : iB x.toInt := ⟨by have := x.le_toInt; omega, by have := x.toInt_lt; omega⟩
  have h1 : (nI n).toInt = n := nI_toInt (by omega)
  have hr := rem_iI hb h0 hn
  rw [iI_self] at hr
  have key : ∃ w : Int, jmod32 x (nI n) = iI w ∧ 0 ≤ w ∧ w < n := by
    unfold jmod32
    rw [hr]
    by_cases hs : 0 ≤ x.toInt
    · rw [if_pos ((xor_sg x (nI n) (by omega)).mpr hs)]
      refine ⟨_, rfl, ?_, ?_⟩
      · exact Int.tmod_nonneg _ hs
      · exact Int.tmod_lt_of_pos _ (by omega)
    · rw [if_neg (fun q => hs ((xor_sg x (nI n) (by omega)).mp q))]
      have h2 : x.toInt.tmod n = - ((-x.toInt) % n) := by
        rw [← Int.neg_neg x.toInt, Int.neg_tmod, Int.tmod_eq_emod_of_nonneg (by omega), Int.neg_neg]
      have h3 := Int.emod_nonneg (-x.toInt) (show (n : Int) ≠ 0 by omega)
      have h4 := Int.emod_lt_of_pos (-x.toInt) (show (0 : Int) < n by omega)
      rw [h2]
      by_cases h5 : (-x.toInt) % n = 0
      · rw [h5]
        exact ⟨0, by rw [if_pos (show iI (-0) = 0 from rfl)]; rfl, by omega, by omega⟩
      · rw [if_neg (fun q => by
          have := (iI_eq (a := -((-x.toInt) % n)) (b := 0) ⟨by omega, by omega⟩ ⟨by omega, by omega⟩).mp q
          omega), ← iI_nat, iI_add]
        exact ⟨_, rfl, by omega, by omega⟩
  obtain ⟨w, e, h5, h6⟩ := key
  have h7 : (jmod32 x (nI n)).toInt = w := by rw [e, iI_toInt ⟨by omega, by omega⟩]
  refine ⟨?_, ?_⟩
  · unfold pk; rw [h7]; omega
  · unfold pk
    rw [h7, e, ← iI_nat]
    congr 1
    omega

set_option maxHeartbeats 4000000 in
set_option maxRecDepth 100000 in
theorem m_X0_pick_2 {l : Launch} {s0 : State} {D : va_G} (h0 : x0 l s0 D) (g : xG) {ns : xN} {sa : Nat} {f : Nat → Int32} (hs : g ns = some (sa, xAi .int 400 f)) {k : Nat} (hk : k < 400) : xMet l s0 D yX0_pick_2 cX0_pick_2 2 (some .int) (xr 0 0 0 0) [.ref sa, .int (nI k)] g (fun r g1 => r = some (.int (f k)) ∧ g1 = g) := by
  refine xMet.of h0 (by decide +kernel) rfl ?_
  intro zp ze zs zm za zb zf zc hC hr hnm
  refine x_iload_n hC dX0_pick_2_0 (q := 1) rfl rfl ?_
  refine x_if_lt hC dX0_pick_2_1 (q := 4) rfl (tgt := 16) rfl (fun h1 => ?_) (fun h1 => ?_)
  · exact absurd h1 (nI_pos (by omega))
  refine x_iload_n hC dX0_pick_2_4 (q := 5) rfl rfl ?_
  refine x_aloadr_n hC dX0_pick_2_5 (q := 6) rfl rfl ?_
  refine x_alen hC dX0_pick_2_6 (q := 7) rfl (n := ns) hs ?_
  refine x_icmp_ge hC dX0_pick_2_7 (q := 10) rfl (tgt := 16) rfl (fun h7 => ?_) (fun h7 => ?_)
  · exact absurd (show nI 400 ≤ nI k from h7) (nI_ge (by omega) (by decide))
  refine x_aloadr_n hC dX0_pick_2_10 (q := 11) rfl rfl ?_
  refine x_iload_n hC dX0_pick_2_11 (q := 12) rfl rfl ?_
  refine x_iald hC dX0_pick_2_12 (q := 13) rfl (n := ns) hs (j := k) rfl hk (by decide) ?_
  refine x_goto hC dX0_pick_2_13 (tgt := 17) rfl ?_
  exact x_iret hC hr dX0_pick_2_17 (Nat.le_of_ble_eq_true rfl) (Nat.le_of_ble_eq_true rfl) ⟨rfl, rfl⟩

set_option maxHeartbeats 4000000 in
set_option maxRecDepth 100000 in
theorem m_X0_pick {l : Launch} {s0 : State} {D : va_G} (h0 : x0 l s0 D) (g : xG) {ns : xN} {sa : Nat} {f : Nat → Int32} (hs : g ns = some (sa, xAi .int 400 f)) {k n : Nat} (hk : k < 400) (h0n : 0 < n) (hn : n < 100000) : xMet l s0 D yX0_pick cX0_pick 3 (some .int) (xr 1 0 0 30) [.ref sa, .int (nI k), .int (nI n)] g (fun r g1 => r = some (.int (nI (pk (f k) n))) ∧ g1 = g) := by
  refine xMet.of h0 (by decide +kernel) rfl ?_
  intro zp ze zs zm za zb zf zc hC hr hnm
  refine x_aloadr_n hC dX0_pick_0 (q := 1) rfl rfl ?_
  refine x_iload_n hC dX0_pick_1 (q := 2) rfl rfl ?_
  refine x_callS hC xv_X0_13 dX0_pick_2 (q := 5) rfl rfl (m_X0_pick_2 h0 g hs hk) rfl (Nat.le_of_ble_eq_true rfl) ⟨(Nat.le_of_ble_eq_true rfl), (Nat.le_of_ble_eq_true rfl)⟩ ⟨(Nat.le_of_ble_eq_true rfl), (Nat.le_of_ble_eq_true rfl)⟩ (fun v g1 hp => ?_)
  obtain ⟨rfl, hg1⟩ := hp
  replace hg1 := hg1.symm
  subst hg1
  refine x_iload_n hC dX0_pick_5 (q := 6) rfl rfl ?_
  refine x_callS hC xv_X0_19 dX0_pick_6 (q := 9) rfl rfl (m_J0_floorMod h0 g _ _ (fun q => by have := (nI_eq (by omega) (by decide)).mp (show nI n = nI 0 from q); omega)) rfl (Nat.le_of_ble_eq_true rfl) ⟨(Nat.le_of_ble_eq_true rfl), (Nat.le_of_ble_eq_true rfl)⟩ ⟨(Nat.le_of_ble_eq_true rfl), (Nat.le_of_ble_eq_true rfl)⟩ (fun v g1 hp => ?_)
  rw [(pk_ok _ h0n hn).2] at hp
  obtain ⟨rfl, hg1⟩ := hp
  replace hg1 := hg1.symm
  subst hg1
  exact x_iret hC hr dX0_pick_9 (Nat.le_of_ble_eq_true rfl) (Nat.le_of_ble_eq_true rfl) ⟨rfl, rfl⟩

def kWi (z : Int) : Int := max 0 (min 99 z)
theorem kWi_i {z : Int} (h : iB z) : (if (0 : Int32) < (if iI z < 99 then iI z else 99) then (if iI z < 99 then iI z else 99) else 0) = iI (kWi z) := by
  have e1 : (iI z < 99) ↔ z < 99 := iI_lt (b := 99) h ⟨by decide, by decide⟩
  have e2 : ((0 : Int32) < iI z) ↔ 0 < z := iI_lt (a := 0) ⟨by decide, by decide⟩ h
  unfold kWi
  by_cases h1 : z < 99
  · rw [if_pos (e1.mpr h1), Int.min_eq_right (by omega)]
    by_cases h2 : 0 < z
    · rw [if_pos (e2.mpr h2), Int.max_eq_right (by omega)]
    · rw [if_neg (fun q => h2 (e2.mp q)), Int.max_eq_left (by omega)]; rfl
  · rw [if_neg (fun q => h1 (e1.mp q)), if_pos (by decide), Int.min_eq_left (by omega)]; rfl

set_option maxHeartbeats 4000000 in
set_option maxRecDepth 100000 in
theorem m_X0_within {l : Launch} {s0 : State} {D : va_G} (h0 : x0 l s0 D) (g : xG) {z : Int} (hz : iB z) : xMet l s0 D yX0_within cX0_within 1 (some .int) (xr 1 0 0 30) [.int (iI z)] g (fun r g1 => r = some (.int (iI (kWi z))) ∧ g1 = g) := by
  refine xMet.of h0 (by decide +kernel) rfl ?_
  intro zp ze zs zm za zb zf zc hC hr hnm
  refine x_iconst hC dX0_within_0 (q := 1) rfl (v := (0)) (by decide) ?_
  refine x_bipush hC dX0_within_1 (q := 3) rfl (v := (99)) (by decide) ?_
  refine x_iload_n hC dX0_within_3 (q := 4) rfl rfl ?_
  refine x_callS hC xv_X0_48 dX0_within_4 (q := 7) rfl rfl (m_J0_min h0 g _ _) rfl (Nat.le_of_ble_eq_true rfl) ⟨(Nat.le_of_ble_eq_true rfl), (Nat.le_of_ble_eq_true rfl)⟩ ⟨(Nat.le_of_ble_eq_true rfl), (Nat.le_of_ble_eq_true rfl)⟩ (fun v g1 hp => ?_)
  obtain ⟨rfl, hg1⟩ := hp
  replace hg1 := hg1.symm
  subst hg1
  refine x_callS hC xv_X0_51 dX0_within_7 (q := 10) rfl rfl (m_J0_max h0 g _ _) rfl (Nat.le_of_ble_eq_true rfl) ⟨(Nat.le_of_ble_eq_true rfl), (Nat.le_of_ble_eq_true rfl)⟩ ⟨(Nat.le_of_ble_eq_true rfl), (Nat.le_of_ble_eq_true rfl)⟩ (fun v g1 hp => ?_)
  rw [kWi_i hz] at hp
  obtain ⟨rfl, hg1⟩ := hp
  replace hg1 := hg1.symm
  subst hg1
  exact x_iret hC hr dX0_within_10 (Nat.le_of_ble_eq_true rfl) (Nat.le_of_ble_eq_true rfl) ⟨rfl, rfl⟩

set_option maxHeartbeats 4000000 in
set_option maxRecDepth 100000 in
theorem m_X0_drawn {l : Launch} {s0 : State} {D : va_G} (h0 : x0 l s0 D) (g : xG) (x : Int32) : xMet l s0 D yX0_drawn cX0_drawn 1 (some .int) (xr 0 0 0 0) [.int x] g (fun r g1 => r = some (.int (kDraw x.toInt64).toInt32) ∧ g1 = g) := by
  refine xMet.of h0 (by decide +kernel) rfl ?_
  intro zp ze zs zm za zb zf zc hC hr hnm
  refine x_ldc2_w hC dX0_drawn_0 (q := 3) rfl q2019 ?_
  refine x_iload_n hC dX0_drawn_3 (q := 4) rfl rfl ?_
  refine x_i2l hC dX0_drawn_4 (q := 5) rfl ?_
  refine x_lmul hC dX0_drawn_5 (q := 6) rfl ?_
  refine x_ldc2_w hC dX0_drawn_6 (q := 9) rfl q2020 ?_
  refine x_ladd hC dX0_drawn_9 (q := 10) rfl ?_
  refine x_ldc2_w hC dX0_drawn_10 (q := 13) rfl q2021 ?_
  refine x_lrem hC dX0_drawn_13 (q := 14) rfl (by decide) ?_
  refine x_l2i hC dX0_drawn_14 (q := 15) rfl ?_
  exact x_iret hC hr dX0_drawn_15 (Nat.le_of_ble_eq_true rfl) (Nat.le_of_ble_eq_true rfl) ⟨rfl, rfl⟩

set_option maxHeartbeats 4000000 in
set_option maxRecDepth 100000 in
theorem m_X0_stirred {l : Launch} {s0 : State} {D : va_G} (h0 : x0 l s0 D) (g : xG) {ns : xN} {sa N : Nat} {f : Nat → Int32} (hs : g ns = some (sa, xAi .int N f)) (hN : N < 2147483648) (hf : g (100, 0) = none) : xMet l s0 D yX0_stirred cX0_stirred 7 (some (.array .int)) (xr 0 1 400 0) [.ref sa] g (fun r g1 => ∃ b h, r = some (.ref b) ∧ g1 = xu g (100, 0) (some (b, xAi .int 400 h))) := by
  refine xMet.of h0 (by decide +kernel) rfl ?_
  intro zp ze zs zm za zb zf zc hC hr hnm
  refine x_ldc2_w hC dX0_stirred_0 (q := 3) rfl q1299 ?_
  refine x_lstore_n hC dX0_stirred_3 (q := 4) rfl rfl ?_
  refine x_aloadr_n hC dX0_stirred_4 (q := 5) rfl rfl ?_
  refine x_astorer_n hC dX0_stirred_5 (q := 6) rfl rfl ?_
  refine x_aloadr_n hC dX0_stirred_6 (q := 7) rfl rfl ?_
  refine x_alen hC dX0_stirred_7 (q := 8) rfl (n := ns) hs ?_
  refine x_istore hC dX0_stirred_8 (q := 10) rfl rfl ?_
  refine x_iconst hC dX0_stirred_10 (q := 11) rfl (v := (0)) (by decide) ?_
  refine x_istore hC dX0_stirred_11 (q := 13) rfl rfl ?_
  refine x_loop (S := (fun x : Nat × Int64 × Option Value => ((0 : Nat), (0 : Nat), g, ([some (.ref sa), some (.long x.2.1), none, some (.ref sa), some (.int (nI N)), some (.int (nI x.1)), x.2.2] : xL), ([] : List Value)))) (Inv := fun x => x.1 ≤ N) (μ := fun x => N - x.1) ?_ (0, _, none) (Nat.zero_le _)
  intro x hi ih
  obtain ⟨i, z, lx⟩ := x
  dsimp only at hi ih ⊢
  refine x_iload hC dX0_stirred_13 (q := 15) rfl rfl ?_
  refine x_iload hC dX0_stirred_15 (q := 17) rfl rfl ?_
  refine x_icmp_ge hC dX0_stirred_17 (q := 20) rfl (tgt := 46) rfl (fun h17 => ?_) (fun h17 => ?_)
  · have hj3 : i = N := by
      have := (nI_leI (by omega) (by omega)).mp (show nI N ≤ nI i from h17)
      omega
    subst hj3
    refine x_sipush hC dX0_stirred_46 (q := 49) rfl (v := (400)) (by decide) ?_
    refine x_newa hC (at0 := .int) (N := 400) (x := (400, .inl (fun _ => 0))) (100, 0) q159 dX0_stirred_49 (q := 51) rfl rfl hf rfl (by decide) (fun _ => rfl) (Nat.le_of_ble_eq_true rfl) (Nat.le_of_ble_eq_true rfl) (fun a_49 => ?_)
    refine x_astorer_n hC dX0_stirred_51 (q := 52) rfl rfl ?_
    refine x_iconst hC dX0_stirred_52 (q := 53) rfl (v := (0)) (by decide) ?_
    refine x_istore hC dX0_stirred_53 (q := 55) rfl rfl ?_
    refine x_loop (S := (fun x : Nat × Int64 × (Nat → Int32) => ((1 : Nat), (400 : Nat), xu g (100, 0) (some (a_49, xAi .int 400 x.2.2)), ([some (.ref sa), some (.long x.2.1), none, some (.ref a_49), some (.int (nI x.1)), some (.int (nI i)), lx] : xL), ([] : List Value)))) (Inv := fun x => x.1 ≤ 400) (μ := fun x => 400 - x.1) ?_ (0, z, fun _ => 0) (Nat.zero_le _)
    intro x hi ih
    obtain ⟨j, y, h⟩ := x
    dsimp only at hi ih ⊢
    refine x_iload hC dX0_stirred_55 (q := 57) rfl rfl ?_
    refine x_aloadr_n hC dX0_stirred_57 (q := 58) rfl rfl ?_
    refine x_alen hC dX0_stirred_58 (q := 59) rfl (n := (100, 0)) (xu_eq _ _ _) ?_
    refine x_icmp_ge hC dX0_stirred_59 (q := 62) rfl (tgt := 87) rfl (fun h59 => ?_) (fun h59 => ?_)
    · skip
      refine x_aloadr_n hC dX0_stirred_87 (q := 88) rfl rfl ?_
      exact x_aret hC hr (Or.inr ⟨_, rfl⟩) (Or.inr ⟨_, rfl⟩) dX0_stirred_88 (Nat.le_of_ble_eq_true rfl) (Nat.le_of_ble_eq_true rfl) ⟨_, _, rfl, rfl⟩
    have hj4 : j < 400 := Nat.lt_of_not_le (fun q => h59 (show nI 400 ≤ nI j from nI_le q (by omega)))
    refine x_lload_n hC dX0_stirred_62 (q := 63) rfl rfl ?_
    refine x_ldc2_w hC dX0_stirred_63 (q := 66) rfl q1300 ?_
    refine x_lmul hC dX0_stirred_66 (q := 67) rfl ?_
    refine x_ldc2_w hC dX0_stirred_67 (q := 70) rfl q1301 ?_
    refine x_ladd hC dX0_stirred_70 (q := 71) rfl ?_
    refine x_lstore_n hC dX0_stirred_71 (q := 72) rfl rfl ?_
    refine x_aloadr_n hC dX0_stirred_72 (q := 73) rfl rfl ?_
    refine x_iload hC dX0_stirred_73 (q := 75) rfl rfl ?_
    refine x_lload_n hC dX0_stirred_75 (q := 76) rfl rfl ?_
    refine x_bipush hC dX0_stirred_76 (q := 78) rfl (v := (33)) (by decide) ?_
    refine x_lushr hC dX0_stirred_78 (q := 79) rfl ?_
    refine x_l2i hC dX0_stirred_79 (q := 80) rfl ?_
    refine x_iast hC dX0_stirred_80 (q := 81) rfl (n := (100, 0)) rfl (xu_eq _ _ _) (j := j) rfl hj4 (by decide) ?_
    rw [xu_xu]
    refine x_iinc hC dX0_stirred_81 (q := 84) rfl rfl (v := nI (j + 1)) (nI_1 j) ?_
    refine x_goto hC dX0_stirred_84 (tgt := 55) rfl ?_
    exact ih (j + 1, _, _) (by dsimp only; omega) (by dsimp only; omega)
  have hj2 : i < N := Nat.lt_of_not_le (fun q => h17 (show nI N ≤ nI i from nI_le q (by omega)))
  refine x_aloadr_n hC dX0_stirred_20 (q := 21) rfl rfl ?_
  refine x_iload hC dX0_stirred_21 (q := 23) rfl rfl ?_
  refine x_iald hC dX0_stirred_23 (q := 24) rfl (n := ns) hs (j := i) rfl hj2 hN ?_
  refine x_istore hC dX0_stirred_24 (q := 26) rfl rfl ?_
  refine x_lload_n hC dX0_stirred_26 (q := 27) rfl rfl ?_
  refine x_iload hC dX0_stirred_27 (q := 29) rfl rfl ?_
  refine x_i2l hC dX0_stirred_29 (q := 30) rfl ?_
  refine x_lxor hC dX0_stirred_30 (q := 31) rfl ?_
  refine x_ldc2_w hC dX0_stirred_31 (q := 34) rfl q1300 ?_
  refine x_lmul hC dX0_stirred_34 (q := 35) rfl ?_
  refine x_ldc2_w hC dX0_stirred_35 (q := 38) rfl q1301 ?_
  refine x_ladd hC dX0_stirred_38 (q := 39) rfl ?_
  refine x_lstore_n hC dX0_stirred_39 (q := 40) rfl rfl ?_
  refine x_iinc hC dX0_stirred_40 (q := 43) rfl rfl (v := nI (i + 1)) (nI_1 i) ?_
  refine x_goto hC dX0_stirred_43 (tgt := 13) rfl ?_
  exact ih (i + 1, _, some _) (by dsimp only; omega) (by dsimp only; omega)
