/-! bits (the family of bt out of BITS.to-paste) -/
def bt (x : Int32) (i : Nat) : Bool := x.toBitVec.getLsbD i
theorem b_ext {x y : Int32} (h : ∀ i, i < 32 → bt x i = bt y i) : x = y := Int32.toBitVec_inj.mp (BitVec.eq_of_getLsbD_eq (fun i hi => h i hi))
theorem b_or (x y : Int32) (i : Nat) : bt (x ||| y) i = (bt x i || bt y i) := by unfold bt; rw [Int32.toBitVec_or, BitVec.getLsbD_or]
theorem b_and (x y : Int32) (i : Nat) : bt (x &&& y) i = (bt x i && bt y i) := by unfold bt; rw [Int32.toBitVec_and, BitVec.getLsbD_and]
theorem b_xor (x y : Int32) (i : Nat) : bt (x ^^^ y) i = (bt x i ^^ bt y i) := by unfold bt; rw [Int32.toBitVec_xor, BitVec.getLsbD_xor]
theorem b_big {x : Int32} {i : Nat} (h : 32 ≤ i) : bt x i = false := BitVec.getLsbD_of_ge _ _ h
theorem b_255 (i : Nat) : bt 255 i = decide (i < 8) := by
  rcases Nat.lt_or_ge i 32 with h | h
  · exact (by decide +kernel : ∀ i, i < 32 → bt 255 i = decide (i < 8)) i h
  · rw [b_big h, decide_eq_false (by omega)]
theorem b_65535 (i : Nat) : bt 65535 i = decide (i < 16) := by
  rcases Nat.lt_or_ge i 32 with h | h
  · exact (by decide +kernel : ∀ i, i < 32 → bt 65535 i = decide (i < 16)) i h
  · rw [b_big h, decide_eq_false (by omega)]
theorem b_m1 : ∀ i, i < 32 → bt (-1) i = true := by decide +kernel
theorem b_0 (i : Nat) : bt 0 i = false := BitVec.getLsbD_zero
theorem s_l : ∀ n, n < 32 → ((nI n &&& 31).toBitVec.smod 32).toNat = n := by decide +kernel
theorem s_u : ∀ n, n < 32 → (((nI n).toUInt32 &&& Int32.toUInt32 31).toBitVec % 32).toNat = n := by decide +kernel
theorem b_shl (n : Nat) (hn : n < 32) (x : Int32) {i : Nat} (hi : i < 32) : bt (x <<< (nI n &&& 31)) i = (decide (n ≤ i) && bt x (i - n)) := by
  unfold bt
  rw [Int32.toBitVec_shiftLeft]
  show (x.toBitVec <<< ((nI n &&& 31).toBitVec.smod 32).toNat).getLsbD i = _
  rw [s_l n hn, BitVec.getLsbD_shiftLeft]
  rcases Nat.lt_or_ge i n with h | h
  · simp [h, Nat.not_le.mpr h]
  · simp [hi, h, Nat.not_lt.mpr h]
theorem b_ushr (n : Nat) (hn : n < 32) (x : Int32) (i : Nat) : bt ((x.toUInt32 >>> ((nI n).toUInt32 &&& Int32.toUInt32 31)).toInt32) i = bt x (n + i) := by
  show (x.toUInt32 >>> ((nI n).toUInt32 &&& Int32.toUInt32 31)).toBitVec.getLsbD i = x.toUInt32.toBitVec.getLsbD (n + i)
  rw [UInt32.toBitVec_shiftRight]
  show (x.toUInt32.toBitVec >>> (((nI n).toUInt32 &&& Int32.toUInt32 31).toBitVec % 32).toNat).getLsbD i = _
  rw [s_u n hn, BitVec.getLsbD_ushiftRight]
theorem b_sshr (n : Nat) (hn : n < 32) (x : Int32) {i : Nat} (hi : i < 32) : bt (x >>> (nI n &&& 31)) i = if n + i < 32 then bt x (n + i) else bt x 31 := by
  unfold bt
  rw [Int32.toBitVec_shiftRight]
  show (x.toBitVec.sshiftRight ((nI n &&& 31).toBitVec.smod 32).toNat).getLsbD i = _
  rw [s_l n hn, BitVec.getLsbD_sshiftRight, BitVec.msb_eq_getLsbD_last]
  simp [hi]
/-! bits, more -/
theorem b_one {k i : Nat} (hk : k < 32) (hi : i < 32) : bt ((1 : Int32) <<< (nI k &&& 31)) i = decide (i = k) := by
  rw [b_shl k hk 1 hi]
  have h1 : ∀ j, j < 32 → bt 1 j = decide (j = 0) := by decide +kernel
  by_cases h : k ≤ i
  · rw [decide_eq_true h, h1 (i - k) (by omega)]
    by_cases e : i = k
    · subst e; simp
    · rw [decide_eq_false e, decide_eq_false (by omega)]; rfl
  · rw [decide_eq_false h, decide_eq_false (by omega)]; rfl
theorem b_low (x : Int32) : (x &&& 1 = 1) ↔ bt x 0 = true := by
  have h1 : ∀ j, j < 32 → bt 1 j = decide (j = 0) := by decide +kernel
  constructor
  · intro h
    have e : bt (x &&& 1) 0 = bt 1 0 := by rw [h]
    rw [b_and, h1 0 (by decide)] at e
    simpa using e
  · intro h
    refine b_ext (fun i hi => ?_)
    rw [b_and, h1 i hi]
    by_cases e : i = 0
    · subst e; rw [h]; rfl
    · rw [decide_eq_false e]; simp
theorem b_at (x : Int32) {k : Nat} (hk : k < 32) : ((x >>> (nI k &&& 31)) &&& 1 = 1) ↔ bt x k = true := by
  rw [b_low, b_sshr k hk x (by decide), if_pos (by omega), Nat.add_zero]
/-- the one within the other -/
def bIn (x y : Int32) : Prop := ∀ i, i < 32 → bt x i = true → bt y i = true
theorem bIn_lt {x y : Int32} (h : bIn x y) (hn : ¬ x = y) : x.toBitVec.toNat < y.toBitVec.toNat := by
  have e : x &&& y = x := b_ext (fun i hi => by
    rw [b_and]
    cases hx : bt x i with
    | false => rfl
    | true => rw [h i hi hx]; rfl)
  have e2 : x.toBitVec.toNat = x.toBitVec.toNat &&& y.toBitVec.toNat := by
    have := congrArg (fun z : Int32 => z.toBitVec.toNat) e
    rw [Int32.toBitVec_and, BitVec.toNat_and] at this
    exact this.symm
  have h3 : x.toBitVec.toNat ≤ y.toBitVec.toNat := by rw [e2]; exact Nat.and_le_right
  rcases Nat.lt_or_eq_of_le h3 with q | q
  · exact q
  · exact absurd (Int32.toBitVec_inj.mp (BitVec.eq_of_toNat_eq q)) hn
/-! what a state and a frame must be -/
/-- the frame: the empty list's array, and no name of work in it -/
def KFo (s0 : State) (gF : xG) (d0 : Nat) : Prop := xE0 s0 gF d0 ∧ ∀ n : xN, 45 ≤ n.1 → n.1 ≤ 99 → gF n = none
theorem KFo.NB {s0 : State} {gF : xG} {d0 : Nat} (h : KFo s0 gF d0) : kNB gF := fun n h1 h2 => h.2 n (by omega) (by omega)
theorem KFo.NS {s0 : State} {gF : xG} {d0 : Nat} (h : KFo s0 gF d0) : kNS gF := ⟨h.2 (45, 0) (by decide) (by decide), h.2 (46, 0) (by decide) (by decide), h.2 (47, 0) (by decide) (by decide)⟩
theorem KFo.n48 {s0 : State} {gF : xG} {d0 : Nat} (h : KFo s0 gF d0) : ∀ k, 48 ≤ k → k ≤ 52 → gF (k, 0) = none := fun k h1 h2 => h.2 (k, 0) (show 45 ≤ k by omega) (show k ≤ 99 by omega)
theorem KFo.at {s0 : State} {gF : xG} {d0 : Nat} (h : KFo s0 gF d0) (k i : Nat) (h1 : 45 ≤ k) (h2 : k ≤ 99) : gF (k, i) = none := h.2 (k, i) h1 h2
/-- the state between the law's calls -/
def KSt (gF : xG) (F : Nat → Option (aEnv → Int64)) (d0 : Nat) (σ : KS) : Prop := kF gF σ F ∧ KV σ ∧ KPl σ ∧ KNb σ ∧ KR σ ∧ KTc σ d0 ∧ KAc σ d0 ∧ kA σ 63 0 ≤ 7 ∧ kI σ 4 0 = 0

/-! brothers -/
/-- closed under sticking -/
def kCl (σ : KS) (S : Int32) : Prop := ∀ k, k < kA σ 61 0 → bt S k = true → bIn (iI (kI σ 35 k)) S
/-- the least closed set with a child in it -/
def kBr (σ : KS) (c : Nat) (S : Int32) : Prop := bt S c = true ∧ kCl σ S ∧ ∀ T, bt T c = true → kCl σ T → bIn S T
/-- the outer loop's invariant -/
def kB1 (σ : KS) (c : Nat) (S W : Int32) : Prop := bt S c = true ∧ bIn W S ∧ (∀ k, k < kA σ 61 0 → bt W k = true → bIn (iI (kI σ 35 k)) S) ∧ ∀ T, bt T c = true → kCl σ T → bIn S T
theorem kB1_0 (σ : KS) {c : Nat} (hc : c < 32) : kB1 σ c ((1 : Int32) <<< (nI c &&& 31)) 0 := by
  refine ⟨by rw [b_one hc hc]; simp, (fun i hi h => by rw [b_0] at h; cases h), (fun k hk h => by rw [b_0] at h; cases h), fun T h1 h2 i hi h => ?_⟩
  rw [b_one hc hi] at h
  have e : i = c := by simpa using h
  rw [e]; exact h1
theorem kB1_e {σ : KS} {c : Nat} {S W : Int32} (h : kB1 σ c S W) (e : S = W) : kBr σ c S := by
  subst e
  exact ⟨h.1, h.2.2.1, h.2.2.2⟩
/-- the inner loop's invariant: of the old set W the first n children are done -/
def kB2 (σ : KS) (c : Nat) (W S : Int32) (n : Nat) : Prop := bt S c = true ∧ bIn W S ∧ (∀ k, k < n → bt W k = true → bIn (iI (kI σ 35 k)) S) ∧ ∀ T, bt T c = true → kCl σ T → bIn S T
theorem kB2_s {σ : KS} {c : Nat} {W S : Int32} {n : Nat} (hn : n < kA σ 61 0) (hn2 : n < 32) (h : kB2 σ c W S n) (hw : bt W n = true) : kB2 σ c W (S ||| iI (kI σ 35 n)) (n + 1) := by
  obtain ⟨h1, h2, h3, h4⟩ := h
  refine ⟨by rw [b_or, h1]; rfl, fun i hi q => by rw [b_or, h2 i hi q]; rfl, fun k hk q i hi r => ?_, fun T t1 t2 i hi q => ?_⟩
  · rw [b_or]
    rcases Nat.lt_or_eq_of_le (Nat.le_of_lt_succ hk) with e | e
    · rw [h3 k e q i hi r]; rfl
    · subst e; rw [r, Bool.or_true]
  · rw [b_or, Bool.or_eq_true] at q
    rcases q with q | q
    · exact h4 T t1 t2 i hi q
    · exact t2 n hn (h4 T t1 t2 n hn2 (h2 n hn2 hw)) i hi q
theorem kB2_n {σ : KS} {c : Nat} {W S : Int32} {n : Nat} (h : kB2 σ c W S n) (hw : ¬ bt W n = true) : kB2 σ c W S (n + 1) := by
  obtain ⟨h1, h2, h3, h4⟩ := h
  refine ⟨h1, h2, fun k hk q => ?_, h4⟩
  rcases Nat.lt_or_eq_of_le (Nat.le_of_lt_succ hk) with e | e
  · exact h3 k e q
  · subst e; exact absurd q hw

set_option maxHeartbeats 4000000 in
set_option maxRecDepth 100000 in
theorem m_X2_brothers_f {l : Launch} {s0 : State} {D : va_G} (h0 : x0 l s0 D) (σ : KS) (gF : xG) (hw : KW σ) (ch : Nat) (hc : ch < kA σ 61 0) (hfd : ¬ iI (kI σ 34 ch) = -1) : xMet l s0 D yX2_brothers cX2_brothers 6 (some .int) (xr 5 0 0 106) [.ref (kA σ 0 0), .int (nI ch)] (kmix σ gF) (fun r g1 => ∃ S, r = some (.int S) ∧ kBr σ ch S ∧ g1 = kmix σ gF) := by
  refine xMet.of h0 (by decide +kernel) rfl ?_
  intro p e s m args below meth c hC hr hnm
  refine x_aloadr_n hC dX2_brothers_0 (q := 1) rfl rfl ?_
  refine x_iload_n hC dX2_brothers_1 (q := 2) rfl rfl ?_
  refine x_callV hC xv_X2_313 dX2_brothers_2 (q := 5) rfl rfl (m_X2_childOf h0 σ gF hw ch hc) (nn := (0, 0)) rfl rfl rfl (Nat.le_of_ble_eq_true rfl) ⟨(Nat.le_of_ble_eq_true rfl), (Nat.le_of_ble_eq_true rfl)⟩ ⟨(Nat.le_of_ble_eq_true rfl), (Nat.le_of_ble_eq_true rfl)⟩ (fun v g1 hp => ?_)
  obtain ⟨rfl, hg1⟩ := hp
  replace hg1 := hg1.symm
  subst hg1
  refine x_astorer_n hC dX2_brothers_5 (q := 6) rfl rfl ?_
  refine x_aloadr_n hC dX2_brothers_6 (q := 7) rfl rfl ?_
  refine x_ifnonnull_r hC dX2_brothers_7 (tgt := 12) rfl ?_
  refine x_aloadr_n hC dX2_brothers_12 (q := 13) rfl rfl ?_
  refine x_callV hC xv_X2_321 dX2_brothers_13 (q := 16) rfl rfl (m_X8_isFired h0 σ gF ch hc) (nn := (20, ch)) (kg_20 ch hc) rfl rfl (Nat.le_of_ble_eq_true rfl) ⟨(Nat.le_of_ble_eq_true rfl), (Nat.le_of_ble_eq_true rfl)⟩ ⟨(Nat.le_of_ble_eq_true rfl), (Nat.le_of_ble_eq_true rfl)⟩ (fun v g1 hp => ?_)
  obtain ⟨rfl, hg1⟩ := hp
  replace hg1 := hg1.symm
  subst hg1
  refine x_if_ne hC dX2_brothers_16 (q := 19) rfl (tgt := 21) rfl (fun h16 => ?_) (fun h16 => ?_)
  · refine x_iconst hC dX2_brothers_21 (q := 22) rfl (v := (1)) (by decide) ?_
    refine x_iload_n hC dX2_brothers_22 (q := 23) rfl rfl ?_
    refine x_ishl hC dX2_brothers_23 (q := 24) rfl ?_
    refine x_istore_n hC dX2_brothers_24 (q := 25) rfl rfl ?_
    refine x_iconst hC dX2_brothers_25 (q := 26) rfl (v := (0)) (by decide) ?_
    refine x_istore hC dX2_brothers_26 (q := 28) rfl rfl ?_
    refine x_loop (S := (fun i : Int32 × Int32 => ((0 : Nat), (0 : Nat), kmix σ gF, ([some (.ref (kA σ 0 0)), some (.int (nI ch)), some (.ref (kA σ 20 ch)), some (.int i.1), some (.int i.2), none] : xL), ([] : List Value)))) (Inv := fun i => kB1 σ ch i.1 i.2) (μ := fun i => 4294967296 - i.2.toBitVec.toNat) ?_ ((1 : Int32) <<< (nI ch &&& 31), 0) (kB1_0 σ (by have := hw.1; omega))
    intro ⟨sx, wx⟩ hi ih
    dsimp only at hi ih ⊢
    refine x_iload_n hC dX2_brothers_28 (q := 29) rfl rfl ?_
    refine x_iload hC dX2_brothers_29 (q := 31) rfl rfl ?_
    refine x_icmp_eq hC dX2_brothers_31 (q := 34) rfl (tgt := 90) rfl (fun h31 => ?_) (fun h31 => ?_)
    · refine x_iload_n hC dX2_brothers_90 (q := 91) rfl rfl ?_
      exact x_iret hC hr dX2_brothers_91 (Nat.le_of_ble_eq_true rfl) (Nat.le_of_ble_eq_true rfl) ⟨sx, rfl, kB1_e hi h31, rfl⟩
    refine x_iload_n hC dX2_brothers_34 (q := 35) rfl rfl ?_
    refine x_istore hC dX2_brothers_35 (q := 37) rfl rfl ?_
    refine x_iconst hC dX2_brothers_37 (q := 38) rfl (v := (0)) (by decide) ?_
    refine x_istore hC dX2_brothers_38 (q := 40) rfl rfl ?_
    refine x_loop (S := (fun i : Int32 × Nat => ((0 : Nat), (0 : Nat), kmix σ gF, ([some (.ref (kA σ 0 0)), some (.int (nI ch)), some (.ref (kA σ 20 ch)), some (.int i.1), some (.int sx), some (.int (nI i.2))] : xL), ([] : List Value)))) (Inv := fun i => i.2 ≤ kA σ 61 0 ∧ kB2 σ ch sx i.1 i.2) (μ := fun i => kA σ 61 0 - i.2) ?_ (sx, 0) ⟨Nat.zero_le _, hi.1, fun _ _ q => q, fun k hk => absurd hk (Nat.not_lt_zero k), hi.2.2.2⟩
    intro ⟨s2, k1⟩ hj jh
    dsimp only at hj jh ⊢
    obtain ⟨hj1, hi2⟩ := hj
    have hn8 := hw.1
    refine x_iload hC dX2_brothers_40 (q := 42) rfl rfl ?_
    refine x_aloadr_n hC dX2_brothers_42 (q := 43) rfl rfl ?_
    refine x_callV hC xv_X2_351 dX2_brothers_43 (q := 46) rfl rfl (m_X2_children h0 σ gF) (nn := (0, 0)) rfl rfl rfl (Nat.le_of_ble_eq_true rfl) ⟨(Nat.le_of_ble_eq_true rfl), (Nat.le_of_ble_eq_true rfl)⟩ ⟨(Nat.le_of_ble_eq_true rfl), (Nat.le_of_ble_eq_true rfl)⟩ (fun v g1 hp => ?_)
    obtain ⟨rfl, hg1⟩ := hp
    replace hg1 := hg1.symm
    subst hg1
    refine x_icmp_ge hC dX2_brothers_46 (q := 49) rfl (tgt := 87) rfl (fun h46 => ?_) (fun h46 => ?_)
    · have hk3 : k1 = kA σ 61 0 := by
        have := (nI_leI (by omega) (by omega)).mp h46
        omega
      refine x_goto hC dX2_brothers_87 (tgt := 28) rfl ?_
      refine x_lvle (lv' := [some (.ref (kA σ 0 0)), some (.int (nI ch)), some (.ref (kA σ 20 ch)), some (.int s2), some (.int sx), none]) (by repeat' constructor) ?_
      exact ih (s2, sx) ⟨hi2.1, hi2.2.1, fun k hk => hi2.2.2.1 k (by omega), hi2.2.2.2⟩ (by dsimp only; have h1 := bIn_lt hi.2.1 (fun q => h31 q.symm); have h2 := sx.toBitVec.isLt; omega)
    have hk2 : k1 < kA σ 61 0 := Nat.lt_of_not_le (fun q => h46 (nI_le q (by omega)))
    refine x_iload hC dX2_brothers_49 (q := 51) rfl rfl ?_
    refine x_iload hC dX2_brothers_51 (q := 53) rfl rfl ?_
    refine x_ishr hC dX2_brothers_53 (q := 54) rfl ?_
    refine x_iconst hC dX2_brothers_54 (q := 55) rfl (v := (1)) (by decide) ?_
    refine x_iand hC dX2_brothers_55 (q := 56) rfl ?_
    refine x_iconst hC dX2_brothers_56 (q := 57) rfl (v := (1)) (by decide) ?_
    refine x_icmp_ne hC dX2_brothers_57 (q := 60) rfl (tgt := 81) rfl (fun h57 => ?_) (fun h57 => ?_)
    · have hbt : ¬ bt sx k1 = true := fun q => h57 ((b_at sx (by omega)).mpr q)
      refine x_iinc hC dX2_brothers_81 (q := 84) rfl rfl (v := nI (k1 + 1)) (nI_1 k1) ?_
      refine x_goto hC dX2_brothers_84 (tgt := 40) rfl ?_
      first
        | exact jh (_, k1 + 1) ⟨by dsimp only; omega, kB2_s hk2 (by omega) hi2 hbt⟩ (by dsimp only; omega)
        | exact jh (_, k1 + 1) ⟨by dsimp only; omega, kB2_n hi2 hbt⟩ (by dsimp only; omega)
    have hbt : bt sx k1 = true := (b_at sx (by omega)).mp h57
    refine x_iload_n hC dX2_brothers_60 (q := 61) rfl rfl ?_
    refine x_aloadr_n hC dX2_brothers_61 (q := 62) rfl rfl ?_
    refine x_get hC xf_X2_20_1 dX2_brothers_62 (q := 65) rfl (n := (0, 0)) rfl rfl ?_
    refine x_get hC xf_X2_143_2 dX2_brothers_65 (q := 68) rfl (n := (3, 0)) rfl rfl ?_
    refine x_iload hC dX2_brothers_68 (q := 70) rfl rfl ?_
    refine x_callV hC xv_X2_139 dX2_brothers_70 (q := 73) rfl rfl (m_childAt h0 σ gF hw.c61 k1 hk2) (nn := (4, 0)) rfl rfl rfl (Nat.le_of_ble_eq_true rfl) ⟨(Nat.le_of_ble_eq_true rfl), (Nat.le_of_ble_eq_true rfl)⟩ ⟨(Nat.le_of_ble_eq_true rfl), (Nat.le_of_ble_eq_true rfl)⟩ (fun v g1 hp => ?_)
    obtain ⟨rfl, hg1⟩ := hp
    replace hg1 := hg1.symm
    subst hg1
    refine x_castS hC q1344 rfl dX2_brothers_73 (q := 76) rfl (n := (20, k1)) (kg_20 k1 hk2) ?_
    refine x_get hC xf_X2_412_5 dX2_brothers_76 (q := 79) rfl (n := (20, k1)) (kg_20 k1 hk2) rfl ?_
    refine x_ior hC dX2_brothers_79 (q := 80) rfl ?_
    refine x_istore_n hC dX2_brothers_80 (q := 81) rfl rfl ?_
    refine x_iinc hC dX2_brothers_81 (q := 84) rfl rfl (v := nI (k1 + 1)) (nI_1 k1) ?_
    refine x_goto hC dX2_brothers_84 (tgt := 40) rfl ?_
    first
      | exact jh (_, k1 + 1) ⟨by dsimp only; omega, kB2_s hk2 (by omega) hi2 hbt⟩ (by dsimp only; omega)
      | exact jh (_, k1 + 1) ⟨by dsimp only; omega, kB2_n hi2 hbt⟩ (by dsimp only; omega)
  · exact absurd h16 (by rw [if_neg hfd]; decide)

set_option maxHeartbeats 4000000 in
set_option maxRecDepth 100000 in
theorem m_X2_brothers_r {l : Launch} {s0 : State} {D : va_G} (h0 : x0 l s0 D) (σ : KS) (gF : xG) (hw : KW σ) (ch : Nat) (hc : ch < kA σ 61 0) (hfd : iI (kI σ 34 ch) = -1) : xMet l s0 D yX2_brothers cX2_brothers 6 (some .int) (xr 5 0 0 106) [.ref (kA σ 0 0), .int (nI ch)] (kmix σ gF) (fun r g1 => r = some (.int 0) ∧ g1 = kmix σ gF) := by
  refine xMet.of h0 (by decide +kernel) rfl ?_
  intro p e s m args below meth c hC hr hnm
  refine x_aloadr_n hC dX2_brothers_0 (q := 1) rfl rfl ?_
  refine x_iload_n hC dX2_brothers_1 (q := 2) rfl rfl ?_
  refine x_callV hC xv_X2_313 dX2_brothers_2 (q := 5) rfl rfl (m_X2_childOf h0 σ gF hw ch hc) (nn := (0, 0)) rfl rfl rfl (Nat.le_of_ble_eq_true rfl) ⟨(Nat.le_of_ble_eq_true rfl), (Nat.le_of_ble_eq_true rfl)⟩ ⟨(Nat.le_of_ble_eq_true rfl), (Nat.le_of_ble_eq_true rfl)⟩ (fun v g1 hp => ?_)
  obtain ⟨rfl, hg1⟩ := hp
  replace hg1 := hg1.symm
  subst hg1
  refine x_astorer_n hC dX2_brothers_5 (q := 6) rfl rfl ?_
  refine x_aloadr_n hC dX2_brothers_6 (q := 7) rfl rfl ?_
  refine x_ifnonnull_r hC dX2_brothers_7 (tgt := 12) rfl ?_
  refine x_aloadr_n hC dX2_brothers_12 (q := 13) rfl rfl ?_
  refine x_callV hC xv_X2_321 dX2_brothers_13 (q := 16) rfl rfl (m_X8_isFired h0 σ gF ch hc) (nn := (20, ch)) (kg_20 ch hc) rfl rfl (Nat.le_of_ble_eq_true rfl) ⟨(Nat.le_of_ble_eq_true rfl), (Nat.le_of_ble_eq_true rfl)⟩ ⟨(Nat.le_of_ble_eq_true rfl), (Nat.le_of_ble_eq_true rfl)⟩ (fun v g1 hp => ?_)
  obtain ⟨rfl, hg1⟩ := hp
  replace hg1 := hg1.symm
  subst hg1
  refine x_if_ne hC dX2_brothers_16 (q := 19) rfl (tgt := 21) rfl (fun h16 => ?_) (fun h16 => ?_)
  · exact absurd (if_pos hfd) h16
  refine x_iconst hC dX2_brothers_19 (q := 20) rfl (v := (0)) (by decide) ?_
  exact x_iret hC hr dX2_brothers_20 (Nat.le_of_ble_eq_true rfl) (Nat.le_of_ble_eq_true rfl) ⟨rfl, rfl⟩

/-! safe -/
/-- nobody cracks or sticks by a heat, as the kiln is set -/
def kSaf (F : Nat → Option (aEnv → Int64)) (σ : KS) (kq : Nat) (hh : Int32) : Prop := ∀ q, q < kA σ 25 kq → kSfP F σ kq hh (kBT F σ kq hh) (kBK F σ kq hh) q

set_option maxHeartbeats 4000000 in
set_option maxRecDepth 100000 in
theorem m_X2_safe_s {l : Launch} {s0 : State} {D : va_G} (h0 : x0 l s0 D) (σ : KS) (gF : xG) (f : aEnv) {F : Nat → Option (aEnv → Int64)} (hF : kF gF σ F) (hv : KV σ) (hNB : kNB gF) (kq : Nat) (hq : kq < kA σ 62 0) (hfl : ¬ kFull σ kq = 0) : xMet l s0 D yX2_safe cX2_safe 4 (some .int) (xr 41 399 2457 1800) [.ref (kA σ 0 0), .int (nI kq)] (kmix (kT σ f) gF) (fun r g1 => ∃ f1, ((∃ h, h ≤ 20 ∧ kSaf F σ kq (nI h) ∧ (∀ j, h < j → j ≤ 20 → ¬ kSaf F σ kq (nI j)) ∧ r = some (.int (nI h))) ∨ (∀ j, j ≤ 20 → ¬ kSaf F σ kq (nI j)) ∧ r = some (.int (-1))) ∧ g1 = kmix (kT σ f1) gF) := by
  refine xMet.of h0 (by decide +kernel) rfl ?_
  intro p e s m args below meth c hC hr hnm
  refine x_aloadr_n hC dX2_safe_0 (q := 1) rfl rfl ?_
  refine x_iload_n hC dX2_safe_1 (q := 2) rfl rfl ?_
  refine x_callV hC xv_X2_317 dX2_safe_2 (q := 5) rfl rfl (m_X2_kilnOf h0 (kT σ f) gF hv.1 kq hq) (nn := (0, 0)) rfl rfl rfl (Nat.le_of_ble_eq_true rfl) ⟨(Nat.le_of_ble_eq_true rfl), (Nat.le_of_ble_eq_true rfl)⟩ ⟨(Nat.le_of_ble_eq_true rfl), (Nat.le_of_ble_eq_true rfl)⟩ (fun v g1 hp => ?_)
  obtain ⟨rfl, hg1⟩ := hp
  replace hg1 := hg1.symm
  subst hg1
  refine x_astorer_n hC dX2_safe_5 (q := 6) rfl rfl ?_
  refine x_aloadr_n hC dX2_safe_6 (q := 7) rfl rfl ?_
  refine x_ifnull_r hC dX2_safe_7 (q := 10) rfl ?_
  refine x_aloadr_n hC dX2_safe_10 (q := 11) rfl rfl ?_
  refine x_callV hC xv_X2_217 dX2_safe_11 (q := 14) rfl rfl (m_X9_full h0 (kT σ f) gF kq hq (hv.1.2.2.2.1 kq hq)) (nn := (21, kq)) (kg_21 (σ := kT σ f) kq hq) rfl rfl (Nat.le_of_ble_eq_true rfl) ⟨(Nat.le_of_ble_eq_true rfl), (Nat.le_of_ble_eq_true rfl)⟩ ⟨(Nat.le_of_ble_eq_true rfl), (Nat.le_of_ble_eq_true rfl)⟩ (fun v g1 hp => ?_)
  obtain ⟨rfl, hg1⟩ := hp
  replace hg1 := hg1.symm
  subst hg1
  refine x_if_ne hC dX2_safe_14 (q := 17) rfl (tgt := 19) rfl (fun h14 => ?_) (fun h14 => ?_)
  · refine x_bipush hC dX2_safe_19 (q := 21) rfl (v := (20)) (by decide) ?_
    refine x_istore_n hC dX2_safe_21 (q := 22) rfl rfl ?_
    refine x_loop (S := (fun i : Nat × aEnv => (19 * (21 - i.1), 117 * (21 - i.1), kmix (kT σ i.2) gF, ([some (.ref (kA σ 0 0)), some (.int (nI kq)), some (.ref (kA σ 21 kq)), some (.int (iI ((i.1 : Int) - 1)))] : xL), ([] : List Value)))) (Inv := fun i => i.1 ≤ 21 ∧ ∀ j, i.1 ≤ j → j ≤ 20 → ¬ kSaf F σ kq (nI j)) (μ := fun i => i.1) ?_ (21, f) ⟨Nat.le_refl _, fun j h1 h2 => by dsimp only at h1; omega⟩
    intro ⟨i1, f2⟩ hi ih
    dsimp only at hi ih ⊢
    obtain ⟨hi1, hi2⟩ := hi
    refine x_iload_n hC dX2_safe_22 (q := 23) rfl rfl ?_
    refine x_if_lt hC dX2_safe_23 (q := 26) rfl (tgt := 50) rfl (fun h23 => ?_) (fun h23 => ?_)
    · have hi0 : i1 = 0 := by
        have h2 : (i1 : Int) - 1 < 0 := (iI_lt (a := (i1 : Int) - 1) (b := 0) ⟨by omega, by omega⟩ ⟨by decide, by decide⟩).mp h23
        omega
      subst hi0
      refine x_iconst hC dX2_safe_50 (q := 51) rfl (v := (-1)) (by decide) ?_
      exact x_iret hC hr dX2_safe_51 (show 19 * (21 - 0) ≤ 399 by omega) (show 117 * (21 - 0) ≤ 2457 by omega) ⟨f2, Or.inr ⟨fun j a => hi2 j (Nat.zero_le _) a, rfl⟩, rfl⟩
    obtain ⟨h1, rfl⟩ : ∃ h1, i1 = h1 + 1 := by
      refine ⟨i1 - 1, ?_⟩
      have h2 : ¬ (i1 : Int) - 1 < 0 := fun q => h23 ((iI_lt (a := (i1 : Int) - 1) (b := 0) ⟨by omega, by omega⟩ ⟨by decide, by decide⟩).mpr q)
      omega
    have e0 : iI (((h1 + 1 : Nat) : Int) - 1) = nI h1 := by rw [← iI_nat]; congr 1; omega
    rw [e0]
    refine x_new hC (fs := [.null, .int 0, .null, .null, .null]) (55, 0) xc_18 q1667 q1668 q115 dX2_safe_26 (q := 29) rfl rfl (hNB (55, 0) (by decide) (by decide)) (fun j hj => by match j, hj with | 0, _ => rfl | 1, _ => rfl | 2, _ => rfl | 3, _ => rfl | 4, _ => rfl | j + 5, h => exact absurd h (by omega)) (show 19 * (21 - (h1 + 1)) + 1 ≤ 399 by omega) (show 117 * (21 - (h1 + 1)) + 5 ≤ 2457 by omega) (fun a_26 => ?_)
    refine x_geq (kmix_xuF _ _ _ _ rfl) ?_
    refine x_dup hC dX2_safe_29 (q := 30) rfl rfl ?_
    refine x_aloadr_n hC dX2_safe_30 (q := 31) rfl rfl ?_
    refine x_aloadr_n hC dX2_safe_31 (q := 32) rfl rfl ?_
    refine x_iload_n hC dX2_safe_32 (q := 33) rfl rfl ?_
    refine x_callI hC xv_X2_244 dX2_safe_33 (q := 36) rfl rfl (m_X21_init h0 σ gF f2 hF hv.1 hNB (a := a_26) kq hq (nI h1)) rfl (Nat.le_of_ble_eq_true rfl) ⟨(Nat.le_of_ble_eq_true rfl), (Nat.le_of_ble_eq_true rfl)⟩ ⟨(show 19 * (21 - (h1 + 1)) + 1 + 18 ≤ 399 by omega), (show 117 * (21 - (h1 + 1)) + 5 + 112 ≤ 2457 by omega)⟩ (fun v g1 hp => ?_)
    obtain ⟨f3, aT, aC, rfl, hg1⟩ := hp
    replace hg1 := hg1.symm
    subst hg1
    refine x_callV hC xv_X2_397 dX2_safe_36 (q := 39) rfl rfl (m_X21_isSafe h0 σ gF f3 hF hv.1 hNB (a := a_26) (aT := aT) (aC := aC) hq (hh := nI h1) (t := kBT F σ kq (nI h1)) (k := kBK F σ kq (nI h1))) (nn := (55, 0)) rfl rfl rfl (Nat.le_of_ble_eq_true rfl) ⟨(Nat.le_of_ble_eq_true rfl), (Nat.le_of_ble_eq_true rfl)⟩ ⟨(show 19 * (21 - (h1 + 1)) + 1 + 18 + 0 ≤ 399 by omega), (show 117 * (21 - (h1 + 1)) + 5 + 112 + 0 ≤ 2457 by omega)⟩ (fun v g1 hp => ?_)
    obtain ⟨f4, hres, hg1⟩ := hp
    replace hg1 := hg1.symm
    subst hg1
    obtain ⟨x, rfl, hx⟩ : ∃ x : Int32, v = some (.int x) ∧ (x = 1 ∧ kSaf F σ kq (nI h1) ∨ x = 0 ∧ ¬ kSaf F σ kq (nI h1)) := by
      rcases hres with ⟨a, b⟩ | ⟨⟨q, a1, a2⟩, b⟩
      · exact ⟨1, b, Or.inl ⟨rfl, a⟩⟩
      · exact ⟨0, b, Or.inr ⟨rfl, fun w => a2 (w q a1)⟩⟩
    refine x_if_eq hC dX2_safe_39 (q := 42) rfl (tgt := 44) rfl (fun h39 => ?_) (fun h39 => ?_)
    · have hns : ¬ kSaf F σ kq (nI h1) := by
        rcases hx with a | a
        · rw [a.1] at h39; exact absurd h39 (by decide)
        · exact a.2
      refine x_iinc hC dX2_safe_44 (q := 47) rfl rfl (v := iI ((h1 : Int) - 1)) (by rw [show nI h1 = iI (h1 : Int) from (iI_nat h1).symm, show Int32.ofInt (-1) = iI (-1) from rfl, iI_add]; rfl) ?_
      refine x_goto hC dX2_safe_47 (tgt := 22) rfl ?_
      refine x_widen (k0 := 19 * (21 - h1)) (n0 := 117 * (21 - h1)) (by dsimp only [xr]; omega) (by dsimp only [xr]; omega) ?_
      refine x_sub (g' := kmix (kT σ f4) gF) (kmix_sub (kBF_sub hNB)) ?_
      exact ih (h1, f4) ⟨by dsimp only; omega, fun j a b => by
        by_cases e : j = h1
        · subst e; exact hns
        · exact hi2 j (by dsimp only at a; omega) b⟩ (by dsimp only; omega)
    have hys : kSaf F σ kq (nI h1) := by
      rcases hx with a | a
      · exact a.2
      · exact absurd a.1 h39
    refine x_sub (g' := kmix (kT σ f4) gF) (kmix_sub (kBF_sub hNB)) ?_
    refine x_iload_n hC dX2_safe_42 (q := 43) rfl rfl ?_
    exact x_iret hC hr dX2_safe_43 (show 19 * (21 - (h1 + 1)) + 1 + 18 + 0 ≤ 399 by omega) (show 117 * (21 - (h1 + 1)) + 5 + 112 + 0 ≤ 2457 by omega) ⟨f4, Or.inl ⟨h1, by omega, hys, fun j a b => hi2 j (by omega) b, rfl⟩, rfl⟩
  · exact absurd (nI_eq0 (Nat.lt_of_le_of_lt (kCnt_le _ _) (Nat.lt_of_le_of_lt (hv.1.2.2.2.1 kq hq) (by decide))) h14) hfl

set_option maxHeartbeats 4000000 in
set_option maxRecDepth 100000 in
theorem m_X2_safe_0 {l : Launch} {s0 : State} {D : va_G} (h0 : x0 l s0 D) (σ : KS) (gF : xG) (f : aEnv) (hv : KV σ) (kq : Nat) (hq : kq < kA σ 62 0) (hfl : kFull σ kq = 0) : xMet l s0 D yX2_safe cX2_safe 4 (some .int) (xr 41 399 2457 1800) [.ref (kA σ 0 0), .int (nI kq)] (kmix (kT σ f) gF) (fun r g1 => r = some (.int (-1)) ∧ g1 = kmix (kT σ f) gF) := by
  refine xMet.of h0 (by decide +kernel) rfl ?_
  intro p e s m args below meth c hC hr hnm
  refine x_aloadr_n hC dX2_safe_0 (q := 1) rfl rfl ?_
  refine x_iload_n hC dX2_safe_1 (q := 2) rfl rfl ?_
  refine x_callV hC xv_X2_317 dX2_safe_2 (q := 5) rfl rfl (m_X2_kilnOf h0 (kT σ f) gF hv.1 kq hq) (nn := (0, 0)) rfl rfl rfl (Nat.le_of_ble_eq_true rfl) ⟨(Nat.le_of_ble_eq_true rfl), (Nat.le_of_ble_eq_true rfl)⟩ ⟨(Nat.le_of_ble_eq_true rfl), (Nat.le_of_ble_eq_true rfl)⟩ (fun v g1 hp => ?_)
  obtain ⟨rfl, hg1⟩ := hp
  replace hg1 := hg1.symm
  subst hg1
  refine x_astorer_n hC dX2_safe_5 (q := 6) rfl rfl ?_
  refine x_aloadr_n hC dX2_safe_6 (q := 7) rfl rfl ?_
  refine x_ifnull_r hC dX2_safe_7 (q := 10) rfl ?_
  refine x_aloadr_n hC dX2_safe_10 (q := 11) rfl rfl ?_
  refine x_callV hC xv_X2_217 dX2_safe_11 (q := 14) rfl rfl (m_X9_full h0 (kT σ f) gF kq hq (hv.1.2.2.2.1 kq hq)) (nn := (21, kq)) (kg_21 (σ := kT σ f) kq hq) rfl rfl (Nat.le_of_ble_eq_true rfl) ⟨(Nat.le_of_ble_eq_true rfl), (Nat.le_of_ble_eq_true rfl)⟩ ⟨(Nat.le_of_ble_eq_true rfl), (Nat.le_of_ble_eq_true rfl)⟩ (fun v g1 hp => ?_)
  obtain ⟨rfl, hg1⟩ := hp
  replace hg1 := hg1.symm
  subst hg1
  refine x_if_ne hC dX2_safe_14 (q := 17) rfl (tgt := 19) rfl (fun h14 => ?_) (fun h14 => ?_)
  · exact absurd (by rw [show kFull (kT σ f) kq = 0 from hfl]; rfl) h14
  refine x_iconst hC dX2_safe_17 (q := 18) rfl (v := (-1)) (by decide) ?_
  exact x_iret hC hr dX2_safe_18 (Nat.le_of_ble_eq_true rfl) (Nat.le_of_ble_eq_true rfl) ⟨rfl, rfl⟩
