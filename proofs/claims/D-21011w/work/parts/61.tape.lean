/-! tape and image: lays, feed, writes, image, octet -/
def kTa (σ : KS) (b : Nat → Int) (n : Nat) : KS := (fun f k => if f = 0 ∧ k = 0 then (n : Int) else σ.1 f k, σ.2.1, σ.2.2.1, fun f k j => if f = 0 ∧ k = 0 then b j else σ.2.2.2.1 f k j, σ.2.2.2.2)
def kIm (σ : KS) (b : Nat → Int) (n : Nat) : KS := (fun f k => if f = 6 ∧ k = 0 then (n : Int) else σ.1 f k, σ.2.1, σ.2.2.1, fun f k j => if f = 4 ∧ k = 0 then b j else σ.2.2.2.1 f k j, σ.2.2.2.2)
def iUp (b : Nat → Int) (n : Nat) (z : Int) : Nat → Int := fun j => if j = n then z else b j
theorem kTa_up (σ : KS) (b : Nat → Int) (n : Nat) (z : Int) : kIs (kVs (kTa σ b n) 0 0 n z) 0 0 ((n : Int) + 1) = kTa σ (iUp b n z) (n + 1) := by
  refine KS_ext ?_ rfl rfl ?_ rfl
  · funext f k
    show (if f = 0 ∧ k = 0 then (n : Int) + 1 else if f = 0 ∧ k = 0 then (n : Int) else σ.1 f k) = (if f = 0 ∧ k = 0 then ((n + 1 : Nat) : Int) else σ.1 f k)
    by_cases h : f = 0 ∧ k = 0
    · rw [if_pos h, if_pos h]; rfl
    · rw [if_neg h, if_neg h, if_neg h]
  · funext f k j
    show (if f = 0 ∧ k = 0 ∧ j = n then z else if f = 0 ∧ k = 0 then b j else σ.2.2.2.1 f k j) = (if f = 0 ∧ k = 0 then (if j = n then z else b j) else σ.2.2.2.1 f k j)
    by_cases h : f = 0 ∧ k = 0
    · by_cases e : j = n
      · rw [if_pos ⟨h.1, h.2, e⟩, if_pos h, if_pos e]
      · rw [if_neg (fun q => e q.2.2), if_pos h, if_pos h, if_neg e]
    · rw [if_neg (fun q => h ⟨q.1, q.2.1⟩), if_neg h, if_neg h]
theorem kIm_up (σ : KS) (b : Nat → Int) (n : Nat) (z : Int) : kIs (kVs (kIm σ b n) 4 0 n z) 6 0 ((n : Int) + 1) = kIm σ (iUp b n z) (n + 1) := by
  refine KS_ext ?_ rfl rfl ?_ rfl
  · funext f k
    show (if f = 6 ∧ k = 0 then (n : Int) + 1 else if f = 6 ∧ k = 0 then (n : Int) else σ.1 f k) = (if f = 6 ∧ k = 0 then ((n + 1 : Nat) : Int) else σ.1 f k)
    by_cases h : f = 6 ∧ k = 0
    · rw [if_pos h, if_pos h]; rfl
    · rw [if_neg h, if_neg h, if_neg h]
  · funext f k j
    show (if f = 4 ∧ k = 0 ∧ j = n then z else if f = 4 ∧ k = 0 then b j else σ.2.2.2.1 f k j) = (if f = 4 ∧ k = 0 then (if j = n then z else b j) else σ.2.2.2.1 f k j)
    by_cases h : f = 4 ∧ k = 0
    · by_cases e : j = n
      · rw [if_pos ⟨h.1, h.2, e⟩, if_pos h, if_pos e]
      · rw [if_neg (fun q => e q.2.2), if_pos h, if_pos h, if_neg e]
    · rw [if_neg (fun q => h ⟨q.1, q.2.1⟩), if_neg h, if_neg h]
theorem char_n {n : Nat} (h : n < 65536) : vp_nar .char ((nI n).toUInt32 % 65536).toInt32 = nI n := by
  have e : ((nI n).toUInt32 % 65536).toInt32 = nI n := by
    rw [pk_char]
    have e2 : (nI n).toBitVec.toNat = n := by
      show n % 2 ^ 32 = n
      exact Nat.mod_eq_of_lt (by omega)
    rw [e2, Nat.mod_eq_of_lt h]
  rw [e, vp_nar_char]
  apply Int32.toBitVec_inj.mp
  show ((BitVec.ofNat 32 n).setWidth 16).setWidth 32 = BitVec.ofNat 32 n
  apply BitVec.eq_of_toNat_eq
  rw [BitVec.toNat_setWidth, BitVec.toNat_setWidth, BitVec.toNat_ofNat]
  omega
theorem b255 (x : Int32) : ∃ n : Nat, n < 256 ∧ x &&& 255 = nI n := by
  refine ⟨(x &&& 255).toBitVec.toNat, ?_, ?_⟩
  · rw [Int32.toBitVec_and, BitVec.toNat_and]
    have : x.toBitVec.toNat &&& (255 : Int32).toBitVec.toNat ≤ (255 : Int32).toBitVec.toNat := Nat.and_le_right
    have e : (255 : Int32).toBitVec.toNat = 255 := rfl
    omega
  · apply Int32.toBitVec_inj.mp
    show _ = BitVec.ofNat 32 _
    simp
theorem char_b (x : Int32) : vp_nar .char ((x &&& 255).toUInt32 % 65536).toInt32 = x &&& 255 := by
  obtain ⟨n, hn, e⟩ := b255 x
  rw [e]; exact char_n (by omega)
/-- a byte of a number, from the left -/
def kBw (w : Int32) (i : Nat) : Int32 := (w >>> (nI (24 - 8 * i) &&& 31)) &&& 255
def kLy (b : Nat → Int) (n : Nat) (w : Int32) (i : Nat) : Nat → Int := fun j => if n ≤ j ∧ j < n + i then (kBw w (j - n)).toInt else b j
theorem kLy_0 (b : Nat → Int) (n : Nat) (w : Int32) : kLy b n w 0 = b := by
  funext j
  exact if_neg (by omega)
theorem kLy_s (b : Nat → Int) (n : Nat) (w : Int32) (i : Nat) : iUp (kLy b n w i) (n + i) (kBw w i).toInt = kLy b n w (i + 1) := by
  funext j
  unfold iUp kLy
  by_cases e : j = n + i
  · rw [if_pos e, if_pos (by omega), e, Nat.add_sub_cancel_left]
  · rw [if_neg e]
    by_cases h : n ≤ j ∧ j < n + i
    · rw [if_pos h, if_pos (by omega)]
    · rw [if_neg h, if_neg (by omega)]

set_option maxHeartbeats 4000000 in
set_option maxRecDepth 100000 in
theorem m_X2_lays {l : Launch} {s0 : State} {D : va_G} (h0 : x0 l s0 D) (σ : KS) (gF : xG) (b : Nat → Int) (n : Nat) (hn : n + 4 ≤ 1600) (w : Int32) : xMet l s0 D yX2_lays cX2_lays 3 none (xr 0 0 0 0) [.ref (kA σ 0 0), .int w] (kmix (kTa σ b n) gF) (fun r g1 => r = none ∧ g1 = kmix (kTa σ (kLy b n w 4) (n + 4)) gF) := by
  refine xMet.of h0 (by decide +kernel) rfl ?_
  intro p e s m args below meth c hC hr hnm
  refine x_bipush hC dX2_lays_0 (q := 2) rfl (v := (24)) (by decide) ?_
  refine x_istore_n hC dX2_lays_2 (q := 3) rfl rfl ?_
  refine x_geq (g' := kmix (kTa σ (kLy b n w 0) (n + 0)) gF) (by rw [kLy_0]; rfl) ?_
  refine x_loop (S := (fun i : Nat => ((0 : Nat), (0 : Nat), kmix (kTa σ (kLy b n w i) (n + i)) gF, ([some (.ref (kA σ 0 0)), some (.int w), some (.int (iI (24 - 8 * (i : Int))))] : xL), ([] : List Value)))) (Inv := fun i => i ≤ 4) (μ := fun i => 4 - i) ?_ 0 (Nat.zero_le _)
  intro i1 hi ih
  dsimp only at hi ih ⊢
  refine x_iload_n hC dX2_lays_3 (q := 4) rfl rfl ?_
  refine x_if_lt hC dX2_lays_4 (q := 7) rfl (tgt := 40) rfl (fun h4 => ?_) (fun h4 => ?_)
  · have hi4 : i1 = 4 := by
      have h2 : (24 - 8 * (i1 : Int)) < 0 := (iI_lt (b := 0) ⟨by omega, by omega⟩ ⟨by decide, by decide⟩).mp h4
      omega
    exact x_vret hC hr dX2_lays_40 (Nat.le_of_ble_eq_true rfl) (Nat.le_of_ble_eq_true rfl) ⟨rfl, by rw [hi4]⟩
  have hi4 : i1 < 4 := by
    have h2 : ¬ (24 - 8 * (i1 : Int)) < 0 := fun q => h4 ((iI_lt (b := 0) ⟨by omega, by omega⟩ ⟨by decide, by decide⟩).mpr q)
    omega
  have hx : iI (24 - 8 * (i1 : Int)) = nI (24 - 8 * i1) := by rw [← iI_nat]; congr 1; omega
  refine x_aloadr_n hC dX2_lays_7 (q := 8) rfl rfl ?_
  refine x_get hC xf_X2_9_1 dX2_lays_8 (q := 11) rfl (n := (0, 0)) rfl rfl ?_
  refine x_aloadr_n hC dX2_lays_11 (q := 12) rfl rfl ?_
  refine x_get hC xf_X2_82_1 dX2_lays_12 (q := 15) rfl (n := (0, 0)) rfl rfl ?_
  refine x_iload_n hC dX2_lays_15 (q := 16) rfl rfl ?_
  refine x_iload_n hC dX2_lays_16 (q := 17) rfl rfl ?_
  refine x_ishr hC dX2_lays_17 (q := 18) rfl ?_
  refine x_sipush hC dX2_lays_18 (q := 21) rfl (v := (255)) (by decide) ?_
  refine x_iand hC dX2_lays_21 (q := 22) rfl ?_
  refine x_i2c hC dX2_lays_22 (q := 23) rfl ?_
  refine x_cast hC dX2_lays_23 (q := 24) rfl (n := (1, 0)) rfl rfl (j := n + i1) (iI_nat _) (by omega) (by decide) ?_
  refine x_geq (g' := kmix (kVs (kTa σ (kLy b n w i1) (n + i1)) 0 0 (n + i1) (kBw w i1).toInt) gF) (kf_tape (σ := (kTa σ (kLy b n w i1) (n + i1))) (z := (kBw w i1).toInt) (by rw [hx, iI_self]; exact char_b _)) ?_
  refine x_aloadr_n hC dX2_lays_24 (q := 25) rfl rfl ?_
  refine x_dup hC dX2_lays_25 (q := 26) rfl rfl ?_
  refine x_get hC xf_X2_82_1 dX2_lays_26 (q := 29) rfl (n := (0, 0)) rfl rfl ?_
  refine x_iconst hC dX2_lays_29 (q := 30) rfl (v := (1)) (by decide) ?_
  refine x_iadd hC dX2_lays_30 (q := 31) rfl ?_
  refine x_put hC (n := (0, 0)) xf_X2_82_1 xd_1 rfl dX2_lays_31 (q := 34) rfl rfl rfl rfl rfl ?_
  refine x_geq (g' := kmix (kTa σ (kLy b n w (i1 + 1)) (n + (i1 + 1))) gF) ((kf_taped (σ := kVs (kTa σ (kLy b n w i1) (n + i1)) 0 0 (n + i1) (kBw w i1).toInt) (z := ((n + i1 : Nat) : Int) + 1) (by rw [← iI_add]; rfl)).trans (by rw [kTa_up, kLy_s]; rfl)) ?_
  refine x_iinc hC dX2_lays_34 (q := 37) rfl rfl (v := iI (24 - 8 * ((i1 + 1 : Nat) : Int))) (by rw [show Int32.ofInt (-8) = iI (-8) from rfl, iI_add]; congr 1; omega) ?_
  refine x_goto hC dX2_lays_37 (tgt := 3) rfl ?_
  exact ih (i1 + 1) (by omega) (by omega)

/-- five numbers laid -/
def kFe (b : Nat → Int) (n : Nat) (v : Nat → Int32) : Nat → Nat → Int
  | 0 => b
  | k + 1 => kLy (kFe b n v k) (n + 4 * k) (v k) 4

set_option maxHeartbeats 4000000 in
set_option maxRecDepth 100000 in
theorem m_X2_feed {l : Launch} {s0 : State} {D : va_G} (h0 : x0 l s0 D) (σ : KS) (gF : xG) (b : Nat → Int) (n : Nat) (hn : n + 20 ≤ 1600) (v : Nat → Int32) : xMet l s0 D yX2_feed cX2_feed 6 (some .int) (xr 1 0 0 30) [.ref (kA σ 0 0), .int (v 0), .int (v 1), .int (v 2), .int (v 3), .int (v 4)] (kmix (kTa σ b n) gF) (fun r g1 => r = some (.int (nI (n + 20))) ∧ g1 = kmix (kTa σ (kFe b n v 5) (n + 20)) gF) := by
  refine xMet.of h0 (by decide +kernel) rfl ?_
  intro p e s m args below meth c hC hr hnm
  refine x_aloadr_n hC dX2_feed_0 (q := 1) rfl rfl ?_
  refine x_get hC xf_X2_82_1 dX2_feed_1 (q := 4) rfl (n := (0, 0)) rfl rfl ?_
  refine x_bipush hC dX2_feed_4 (q := 6) rfl (v := (20)) (by decide) ?_
  refine x_iadd hC dX2_feed_6 (q := 7) rfl ?_
  refine x_sipush hC dX2_feed_7 (q := 10) rfl (v := (1600)) (by decide) ?_
  refine x_icmp_le hC dX2_feed_10 (q := 13) rfl (tgt := 19) rfl (fun h10 => ?_) (fun h10 => ?_)
  · refine x_aloadr_n hC dX2_feed_19 (q := 20) rfl rfl ?_
    refine x_geq (g' := kmix (kTa σ (kFe b n v 0) (n + 4 * 0)) gF) rfl ?_
    refine x_iload_n hC dX2_feed_20 (q := 21) rfl rfl ?_
    refine x_callV hC xv_X2_85 dX2_feed_21 (q := 24) rfl rfl (m_X2_lays h0 σ gF (kFe b n v 0) (n + 4 * 0) (by omega) (v 0)) (nn := (0, 0)) rfl rfl rfl (Nat.le_of_ble_eq_true rfl) ⟨(Nat.le_of_ble_eq_true rfl), (Nat.le_of_ble_eq_true rfl)⟩ ⟨(Nat.le_of_ble_eq_true rfl), (Nat.le_of_ble_eq_true rfl)⟩ (fun v g1 hp => ?_)
    obtain ⟨rfl, hg1⟩ := hp
    replace hg1 := hg1.symm
    subst hg1
    refine x_aloadr_n hC dX2_feed_24 (q := 25) rfl rfl ?_
    refine x_geq (g' := kmix (kTa σ (kFe b n v 1) (n + 4 * 1)) gF) rfl ?_
    refine x_iload_n hC dX2_feed_25 (q := 26) rfl rfl ?_
    refine x_callV hC xv_X2_85 dX2_feed_26 (q := 29) rfl rfl (m_X2_lays h0 σ gF (kFe b n v 1) (n + 4 * 1) (by omega) (v 1)) (nn := (0, 0)) rfl rfl rfl (Nat.le_of_ble_eq_true rfl) ⟨(Nat.le_of_ble_eq_true rfl), (Nat.le_of_ble_eq_true rfl)⟩ ⟨(Nat.le_of_ble_eq_true rfl), (Nat.le_of_ble_eq_true rfl)⟩ (fun v g1 hp => ?_)
    obtain ⟨rfl, hg1⟩ := hp
    replace hg1 := hg1.symm
    subst hg1
    refine x_aloadr_n hC dX2_feed_29 (q := 30) rfl rfl ?_
    refine x_geq (g' := kmix (kTa σ (kFe b n v 2) (n + 4 * 2)) gF) rfl ?_
    refine x_iload_n hC dX2_feed_30 (q := 31) rfl rfl ?_
    refine x_callV hC xv_X2_85 dX2_feed_31 (q := 34) rfl rfl (m_X2_lays h0 σ gF (kFe b n v 2) (n + 4 * 2) (by omega) (v 2)) (nn := (0, 0)) rfl rfl rfl (Nat.le_of_ble_eq_true rfl) ⟨(Nat.le_of_ble_eq_true rfl), (Nat.le_of_ble_eq_true rfl)⟩ ⟨(Nat.le_of_ble_eq_true rfl), (Nat.le_of_ble_eq_true rfl)⟩ (fun v g1 hp => ?_)
    obtain ⟨rfl, hg1⟩ := hp
    replace hg1 := hg1.symm
    subst hg1
    refine x_aloadr_n hC dX2_feed_34 (q := 35) rfl rfl ?_
    refine x_geq (g' := kmix (kTa σ (kFe b n v 3) (n + 4 * 3)) gF) rfl ?_
    refine x_iload hC dX2_feed_35 (q := 37) rfl rfl ?_
    refine x_callV hC xv_X2_85 dX2_feed_37 (q := 40) rfl rfl (m_X2_lays h0 σ gF (kFe b n v 3) (n + 4 * 3) (by omega) (v 3)) (nn := (0, 0)) rfl rfl rfl (Nat.le_of_ble_eq_true rfl) ⟨(Nat.le_of_ble_eq_true rfl), (Nat.le_of_ble_eq_true rfl)⟩ ⟨(Nat.le_of_ble_eq_true rfl), (Nat.le_of_ble_eq_true rfl)⟩ (fun v g1 hp => ?_)
    obtain ⟨rfl, hg1⟩ := hp
    replace hg1 := hg1.symm
    subst hg1
    refine x_aloadr_n hC dX2_feed_40 (q := 41) rfl rfl ?_
    refine x_geq (g' := kmix (kTa σ (kFe b n v 4) (n + 4 * 4)) gF) rfl ?_
    refine x_iload hC dX2_feed_41 (q := 43) rfl rfl ?_
    refine x_callV hC xv_X2_85 dX2_feed_43 (q := 46) rfl rfl (m_X2_lays h0 σ gF (kFe b n v 4) (n + 4 * 4) (by omega) (v 4)) (nn := (0, 0)) rfl rfl rfl (Nat.le_of_ble_eq_true rfl) ⟨(Nat.le_of_ble_eq_true rfl), (Nat.le_of_ble_eq_true rfl)⟩ ⟨(Nat.le_of_ble_eq_true rfl), (Nat.le_of_ble_eq_true rfl)⟩ (fun v g1 hp => ?_)
    obtain ⟨rfl, hg1⟩ := hp
    replace hg1 := hg1.symm
    subst hg1
    refine x_aloadr_n hC dX2_feed_46 (q := 47) rfl rfl ?_
    refine x_geq (g' := kmix (kTa σ (kFe b n v 5) (n + 4 * 5)) gF) rfl ?_
    refine x_get hC xf_X2_82_1 dX2_feed_47 (q := 50) rfl (n := (0, 0)) rfl rfl ?_
    exact x_iret hC hr dX2_feed_50 (Nat.le_of_ble_eq_true rfl) (Nat.le_of_ble_eq_true rfl) ⟨by rw [← iI_nat]; rfl, rfl⟩
  · exact absurd (show iI ((n : Int) + 20) ≤ iI 1600 from (iI_le ⟨by omega, by omega⟩ ⟨by decide, by decide⟩).mpr (by omega)) (by rw [← iI_add]; exact h10)

def k255 (y : Int) : Nat := if y = -1 then 255 else y.toNat
theorem k255_lt {y : Int} (h : -1 ≤ y ∧ y < 65536) : k255 y < 65536 := by unfold k255; split <;> omega

set_option maxHeartbeats 4000000 in
set_option maxRecDepth 100000 in
theorem m_X2_writes {l : Launch} {s0 : State} {D : va_G} (h0 : x0 l s0 D) (σ : KS) (gF : xG) (b : Nat → Int) (n : Nat) (hn : n < 56) (y : Int) (hy : -1 ≤ y ∧ y < 65536) : xMet l s0 D yX2_writes cX2_writes 2 none (xr 0 0 0 0) [.ref (kA σ 0 0), .int (iI y)] (kmix (kIm σ b n) gF) (fun r g1 => r = none ∧ g1 = kmix (kIm σ (iUp b n (k255 y)) (n + 1)) gF) := by
  refine xMet.of h0 (by decide +kernel) rfl ?_
  intro p e s m args below meth c hC hr hnm
  refine x_aloadr_n hC dX2_writes_0 (q := 1) rfl rfl ?_
  refine x_get hC xf_X2_52_1 dX2_writes_1 (q := 4) rfl (n := (0, 0)) rfl rfl ?_
  refine x_aloadr_n hC dX2_writes_4 (q := 5) rfl rfl ?_
  refine x_get hC xf_X2_450_1 dX2_writes_5 (q := 8) rfl (n := (0, 0)) rfl rfl ?_
  refine x_iload_n hC dX2_writes_8 (q := 9) rfl rfl ?_
  refine x_iconst hC dX2_writes_9 (q := 10) rfl (v := (-1)) (by decide) ?_
  refine x_icmp_ne hC dX2_writes_10 (q := 13) rfl (tgt := 19) rfl (fun h10 => ?_) (fun h10 => ?_)
  · have hz1 : vp_nar .char ((iI y).toUInt32 % 65536).toInt32 = nI (k255 y) := by
      have hne : ¬ y = -1 := fun q => h10 (by rw [q]; rfl)
      have e : k255 y = y.toNat := if_neg hne
      rw [e]
      have e2 : iI y = nI y.toNat := by rw [← iI_nat, Int.toNat_of_nonneg (by omega)]
      rw [e2]
      exact char_n (by omega)
    refine x_iload_n hC dX2_writes_19 (q := 20) rfl rfl ?_
    refine x_i2c hC dX2_writes_20 (q := 21) rfl ?_
    refine x_cast hC dX2_writes_21 (q := 22) rfl (n := (18, 0)) rfl rfl (j := n) (iI_nat _) (by omega) (by decide) ?_
    refine x_geq (g' := kmix (kVs (kIm σ b n) 4 0 n (k255 y)) gF) (kf_image (σ := kIm σ b n) (z := (k255 y : Int)) (by rw [iI_nat]; exact hz1)) ?_
    refine x_aloadr_n hC dX2_writes_22 (q := 23) rfl rfl ?_
    refine x_dup hC dX2_writes_23 (q := 24) rfl rfl ?_
    refine x_get hC xf_X2_450_1 dX2_writes_24 (q := 27) rfl (n := (0, 0)) rfl rfl ?_
    refine x_iconst hC dX2_writes_27 (q := 28) rfl (v := (1)) (by decide) ?_
    refine x_iadd hC dX2_writes_28 (q := 29) rfl ?_
    refine x_put hC (n := (0, 0)) xf_X2_450_1 xd_1 rfl dX2_writes_29 (q := 32) rfl rfl rfl rfl rfl ?_
    refine x_geq (g' := kmix (kIm σ (iUp b n (k255 y)) (n + 1)) gF) ((kf_imaged (σ := (kVs (kIm σ b n) 4 0 n (k255 y))) (z := (n : Int) + 1) (by rw [← iI_add]; rfl)).trans (by rw [kIm_up])) ?_
    exact x_vret hC hr dX2_writes_32 (Nat.le_of_ble_eq_true rfl) (Nat.le_of_ble_eq_true rfl) ⟨rfl, rfl⟩
  have hz1 : vp_nar .char ((255 : Int32).toUInt32 % 65536).toInt32 = nI (k255 y) := by
    have hne : y = -1 := (iI_eq ⟨by omega, by omega⟩ ⟨by decide, by decide⟩).mp h10
    rw [hne]
    rfl
  refine x_sipush hC dX2_writes_13 (q := 16) rfl (v := (255)) (by decide) ?_
  refine x_goto hC dX2_writes_16 (tgt := 20) rfl ?_
  refine x_i2c hC dX2_writes_20 (q := 21) rfl ?_
  refine x_cast hC dX2_writes_21 (q := 22) rfl (n := (18, 0)) rfl rfl (j := n) (iI_nat _) (by omega) (by decide) ?_
  refine x_geq (g' := kmix (kVs (kIm σ b n) 4 0 n (k255 y)) gF) (kf_image (σ := kIm σ b n) (z := (k255 y : Int)) (by rw [iI_nat]; exact hz1)) ?_
  refine x_aloadr_n hC dX2_writes_22 (q := 23) rfl rfl ?_
  refine x_dup hC dX2_writes_23 (q := 24) rfl rfl ?_
  refine x_get hC xf_X2_450_1 dX2_writes_24 (q := 27) rfl (n := (0, 0)) rfl rfl ?_
  refine x_iconst hC dX2_writes_27 (q := 28) rfl (v := (1)) (by decide) ?_
  refine x_iadd hC dX2_writes_28 (q := 29) rfl ?_
  refine x_put hC (n := (0, 0)) xf_X2_450_1 xd_1 rfl dX2_writes_29 (q := 32) rfl rfl rfl rfl rfl ?_
  refine x_geq (g' := kmix (kIm σ (iUp b n (k255 y)) (n + 1)) gF) ((kf_imaged (σ := (kVs (kIm σ b n) 4 0 n (k255 y))) (z := (n : Int) + 1) (by rw [← iI_add]; rfl)).trans (by rw [kIm_up])) ?_
  exact x_vret hC hr dX2_writes_32 (Nat.le_of_ble_eq_true rfl) (Nat.le_of_ble_eq_true rfl) ⟨rfl, rfl⟩

set_option maxHeartbeats 4000000 in
set_option maxRecDepth 100000 in
theorem m_X2_writesBits {l : Launch} {s0 : State} {D : va_G} (h0 : x0 l s0 D) (σ : KS) (gF : xG) (b : Nat → Int) (n : Nat) (hn : n < 56) (y : Nat) (hy : y < 65536) : xMet l s0 D yX2_writesBits cX2_writesBits 2 none (xr 0 0 0 0) [.ref (kA σ 0 0), .int (nI y)] (kmix (kIm σ b n) gF) (fun r g1 => r = none ∧ g1 = kmix (kIm σ (iUp b n y) (n + 1)) gF) := by
  refine xMet.of h0 (by decide +kernel) rfl ?_
  intro p e s m args below meth c hC hr hnm
  refine x_aloadr_n hC dX2_writesBits_0 (q := 1) rfl rfl ?_
  refine x_get hC xf_X2_52_1 dX2_writesBits_1 (q := 4) rfl (n := (0, 0)) rfl rfl ?_
  refine x_aloadr_n hC dX2_writesBits_4 (q := 5) rfl rfl ?_
  refine x_get hC xf_X2_450_1 dX2_writesBits_5 (q := 8) rfl (n := (0, 0)) rfl rfl ?_
  refine x_iload_n hC dX2_writesBits_8 (q := 9) rfl rfl ?_
  refine x_i2c hC dX2_writesBits_9 (q := 10) rfl ?_
  refine x_cast hC dX2_writesBits_10 (q := 11) rfl (n := (18, 0)) rfl rfl (j := n) (iI_nat _) (by omega) (by decide) ?_
  refine x_geq (g' := kmix (kVs (kIm σ b n) 4 0 n (y : Int)) gF) (kf_image (σ := kIm σ b n) (z := (y : Int)) (by rw [iI_nat]; exact char_n hy)) ?_
  refine x_aloadr_n hC dX2_writesBits_11 (q := 12) rfl rfl ?_
  refine x_dup hC dX2_writesBits_12 (q := 13) rfl rfl ?_
  refine x_get hC xf_X2_450_1 dX2_writesBits_13 (q := 16) rfl (n := (0, 0)) rfl rfl ?_
  refine x_iconst hC dX2_writesBits_16 (q := 17) rfl (v := (1)) (by decide) ?_
  refine x_iadd hC dX2_writesBits_17 (q := 18) rfl ?_
  refine x_put hC (n := (0, 0)) xf_X2_450_1 xd_1 rfl dX2_writesBits_18 (q := 21) rfl rfl rfl rfl rfl ?_
  refine x_geq (g' := kmix (kIm σ (iUp b n (y : Int)) (n + 1)) gF) ((kf_imaged (σ := (kVs (kIm σ b n) 4 0 n (y : Int))) (z := (n : Int) + 1) (by rw [← iI_add]; rfl)).trans (by rw [kIm_up])) ?_
  exact x_vret hC hr dX2_writesBits_21 (Nat.le_of_ble_eq_true rfl) (Nat.le_of_ble_eq_true rfl) ⟨rfl, rfl⟩

set_option maxHeartbeats 4000000 in
set_option maxRecDepth 100000 in
theorem m_X2_writesTwo {l : Launch} {s0 : State} {D : va_G} (h0 : x0 l s0 D) (σ : KS) (gF : xG) (b : Nat → Int) (n : Nat) (hn : n + 1 < 56) (y : Nat) (hy : y < 65536) : xMet l s0 D yX2_writesTwo cX2_writesTwo 2 none (xr 1 0 0 30) [.ref (kA σ 0 0), .int (nI y)] (kmix (kIm σ b n) gF) (fun r g1 => r = none ∧ g1 = kmix (kIm σ (iUp (iUp b n ((y / 256 : Nat) : Int)) (n + 1) ((y % 256 : Nat) : Int)) (n + 2)) gF) := by
  refine xMet.of h0 (by decide +kernel) rfl ?_
  intro p e s m args below meth c hC hr hnm
  refine x_aloadr_n hC dX2_writesTwo_0 (q := 1) rfl rfl ?_
  refine x_iload_n hC dX2_writesTwo_1 (q := 2) rfl rfl ?_
  refine x_sipush hC dX2_writesTwo_2 (q := 5) rfl (v := (256)) (by decide) ?_
  refine x_idiv hC dX2_writesTwo_5 (q := 6) rfl (by decide) ?_
  refine x_steq (st1 := [.int (iI ((y / 256 : Nat) : Int)), .ref (kA σ 0 0)]) (by rw [iI_nat, show (256 : Int32) = nI 256 from rfl, pk_div (by omega) (by decide) (by decide)]) ?_
  refine x_callV hC xv_X2_453 dX2_writesTwo_6 (q := 9) rfl rfl (m_X2_writes h0 σ gF b n (by omega) ((y / 256 : Nat) : Int) ⟨by omega, by omega⟩) (nn := (0, 0)) rfl rfl rfl (Nat.le_of_ble_eq_true rfl) ⟨(Nat.le_of_ble_eq_true rfl), (Nat.le_of_ble_eq_true rfl)⟩ ⟨(Nat.le_of_ble_eq_true rfl), (Nat.le_of_ble_eq_true rfl)⟩ (fun v g1 hp => ?_)
  obtain ⟨rfl, hg1⟩ := hp
  replace hg1 := hg1.symm
  subst hg1
  refine x_geq (g' := kmix (kIm σ (iUp b n ((y / 256 : Nat) : Int)) (n + 1)) gF) (by rw [show k255 ((y / 256 : Nat) : Int) = y / 256 from (if_neg (by omega)).trans (Int.toNat_natCast _)]) ?_
  refine x_aloadr_n hC dX2_writesTwo_9 (q := 10) rfl rfl ?_
  refine x_iload_n hC dX2_writesTwo_10 (q := 11) rfl rfl ?_
  refine x_sipush hC dX2_writesTwo_11 (q := 14) rfl (v := (256)) (by decide) ?_
  refine x_irem hC dX2_writesTwo_14 (q := 15) rfl (by decide) ?_
  refine x_steq (st1 := [.int (iI ((y % 256 : Nat) : Int)), .ref (kA σ 0 0)]) (by rw [iI_nat, show (256 : Int32) = nI 256 from rfl, pk_rem (by omega) (by decide) (by decide)]; rfl) ?_
  refine x_callV hC xv_X2_453 dX2_writesTwo_15 (q := 18) rfl rfl (m_X2_writes h0 σ gF (iUp b n ((y / 256 : Nat) : Int)) (n + 1) (by omega) ((y % 256 : Nat) : Int) ⟨by omega, by omega⟩) (nn := (0, 0)) rfl rfl rfl (Nat.le_of_ble_eq_true rfl) ⟨(Nat.le_of_ble_eq_true rfl), (Nat.le_of_ble_eq_true rfl)⟩ ⟨(Nat.le_of_ble_eq_true rfl), (Nat.le_of_ble_eq_true rfl)⟩ (fun v g1 hp => ?_)
  obtain ⟨rfl, hg1⟩ := hp
  replace hg1 := hg1.symm
  subst hg1
  refine x_geq (g' := kmix (kIm σ (iUp (iUp b n ((y / 256 : Nat) : Int)) (n + 1) ((y % 256 : Nat) : Int)) (n + 2)) gF) (by rw [show k255 ((y % 256 : Nat) : Int) = y % 256 from (if_neg (by omega)).trans (Int.toNat_natCast _)]) ?_
  exact x_vret hC hr dX2_writesTwo_18 (Nat.le_of_ble_eq_true rfl) (Nat.le_of_ble_eq_true rfl) ⟨rfl, rfl⟩

/-- the check of the first bytes -/
def kLst (b : Nat → Nat) : Nat → Nat
  | 0 => 241
  | n + 1 => (5 * kLst b n + b n) % 251
theorem kLst_lt (b : Nat → Nat) : ∀ n, kLst b n < 251 := by
  intro n
  cases n with
  | zero => show 241 < 251; decide
  | succ n => exact Nat.mod_lt _ (by decide)

set_option maxHeartbeats 4000000 in
set_option maxRecDepth 100000 in
theorem m_X2_last {l : Launch} {s0 : State} {D : va_G} (h0 : x0 l s0 D) (g : xG) {nn : xN} {a N : Nat} {v : Nat → Int} (hg : g nn = some (a, xAi .char N (fun j => iI (v j)))) (n : Nat) (hn : n ≤ N) (hN : N < 2147483648) (b : Nat → Nat) (hby : ∀ j, j < n → v j = (b j : Int) ∧ b j < 65536) : xMet l s0 D yX2_last cX2_last 4 (some .int) (xr 0 0 0 0) [.ref a, .int (nI n)] g (fun r g1 => r = some (.int (nI (kLst b n))) ∧ g1 = g) := by
  refine xMet.of h0 (by decide +kernel) rfl ?_
  intro p e s m args below meth c hC hr hnm
  refine x_sipush hC dX2_last_0 (q := 3) rfl (v := (241)) (by decide) ?_
  refine x_istore_n hC dX2_last_3 (q := 4) rfl rfl ?_
  refine x_iconst hC dX2_last_4 (q := 5) rfl (v := (0)) (by decide) ?_
  refine x_istore_n hC dX2_last_5 (q := 6) rfl rfl ?_
  refine x_loop (S := (fun i : Nat => ((0 : Nat), (0 : Nat), g, ([some (.ref a), some (.int (nI n)), some (.int (nI (kLst b i))), some (.int (nI i))] : xL), ([] : List Value)))) (Inv := fun i => i ≤ n) (μ := fun i => n - i) ?_ 0 (Nat.zero_le _)
  intro i1 hi ih
  dsimp only at hi ih ⊢
  refine x_iload_n hC dX2_last_6 (q := 7) rfl rfl ?_
  refine x_iload_n hC dX2_last_7 (q := 8) rfl rfl ?_
  refine x_icmp_ge hC dX2_last_8 (q := 11) rfl (tgt := 29) rfl (fun h8 => ?_) (fun h8 => ?_)
  · have hi4 : i1 = n := by
      have := (nI_leI (by omega) (by omega)).mp h8
      omega
    refine x_iload_n hC dX2_last_29 (q := 30) rfl rfl ?_
    exact x_iret hC hr dX2_last_30 (Nat.le_of_ble_eq_true rfl) (Nat.le_of_ble_eq_true rfl) ⟨by rw [hi4], rfl⟩
  have hi4 : i1 < n := Nat.lt_of_not_le (fun q => h8 (nI_le q (by omega)))
  have hb := hby i1 hi4
  have hl := kLst_lt b i1
  refine x_iconst hC dX2_last_11 (q := 12) rfl (v := (5)) (by decide) ?_
  refine x_iload_n hC dX2_last_12 (q := 13) rfl rfl ?_
  refine x_imul hC dX2_last_13 (q := 14) rfl ?_
  refine x_aloadr_n hC dX2_last_14 (q := 15) rfl rfl ?_
  refine x_iload_n hC dX2_last_15 (q := 16) rfl rfl ?_
  refine x_cald hC dX2_last_16 (q := 17) rfl (n := nn) hg (j := i1) rfl (by omega) (by omega) ?_
  refine x_iadd hC dX2_last_17 (q := 18) rfl ?_
  refine x_sipush hC dX2_last_18 (q := 21) rfl (v := (251)) (by decide) ?_
  refine x_irem hC dX2_last_21 (q := 22) rfl (by decide) ?_
  refine x_steq (st1 := [.int (nI (kLst b (i1 + 1)))]) (by rw [hb.1, iI_nat, show (5 : Int32) = nI 5 from rfl, show (251 : Int32) = nI 251 from rfl, pk_mul, nI_add, pk_rem (by omega) (by decide) (by decide)]; rfl) ?_
  refine x_istore_n hC dX2_last_22 (q := 23) rfl rfl ?_
  refine x_iinc hC dX2_last_23 (q := 26) rfl rfl (v := nI (i1 + 1)) (nI_1 i1) ?_
  refine x_goto hC dX2_last_26 (tgt := 6) rfl ?_
  exact ih (i1 + 1) (by omega) (by omega)
