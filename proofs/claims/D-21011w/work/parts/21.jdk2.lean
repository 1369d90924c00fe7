set_option maxHeartbeats 4000000 in
set_option maxRecDepth 100000 in
theorem m_J0_max {l : Launch} {s0 : State} {D : va_G} (h0 : x0 l s0 D) (g : xG) (x y : Int32) : xMet l s0 D yJ0_max cJ0_max 2 (some .int) (xr 0 0 0 0) [.int x, .int y] g (fun r g1 => r = some (.int (if x < y then y else x)) ∧ g1 = g) := by
  refine xMet.of h0 (by decide +kernel) rfl ?_
  intro p e s m args below meth c hC hr hnm
  refine x_iload_n hC dJ0_max_0 (q := 1) rfl rfl ?_
  refine x_iload_n hC dJ0_max_1 (q := 2) rfl rfl ?_
  refine x_icmp_lt hC dJ0_max_2 (q := 5) rfl (tgt := 9) rfl (fun h2 => ?_) (fun h2 => ?_)
  · refine x_iload_n hC dJ0_max_9 (q := 10) rfl rfl ?_
    exact x_iret hC hr dJ0_max_10 (Nat.le_of_ble_eq_true rfl) (Nat.le_of_ble_eq_true rfl) ⟨by simp only [Int32.lt_iff_toInt_lt, Int32.le_iff_toInt_le, gt_iff_lt, ge_iff_le] at *; split <;> first | rfl | (exfalso; omega), rfl⟩
  refine x_iload_n hC dJ0_max_5 (q := 6) rfl rfl ?_
  refine x_goto hC dJ0_max_6 (tgt := 10) rfl ?_
  exact x_iret hC hr dJ0_max_10 (Nat.le_of_ble_eq_true rfl) (Nat.le_of_ble_eq_true rfl) ⟨by simp only [Int32.lt_iff_toInt_lt, Int32.le_iff_toInt_le, gt_iff_lt, ge_iff_le] at *; split <;> first | rfl | (exfalso; omega), rfl⟩

set_option maxHeartbeats 4000000 in
set_option maxRecDepth 100000 in
theorem m_J0_min {l : Launch} {s0 : State} {D : va_G} (h0 : x0 l s0 D) (g : xG) (x y : Int32) : xMet l s0 D yJ0_min cJ0_min 2 (some .int) (xr 0 0 0 0) [.int x, .int y] g (fun r g1 => r = some (.int (if y < x then y else x)) ∧ g1 = g) := by
  refine xMet.of h0 (by decide +kernel) rfl ?_
  intro p e s m args below meth c hC hr hnm
  refine x_iload_n hC dJ0_min_0 (q := 1) rfl rfl ?_
  refine x_iload_n hC dJ0_min_1 (q := 2) rfl rfl ?_
  refine x_icmp_gt hC dJ0_min_2 (q := 5) rfl (tgt := 9) rfl (fun h2 => ?_) (fun h2 => ?_)
  · refine x_iload_n hC dJ0_min_9 (q := 10) rfl rfl ?_
    exact x_iret hC hr dJ0_min_10 (Nat.le_of_ble_eq_true rfl) (Nat.le_of_ble_eq_true rfl) ⟨by simp only [Int32.lt_iff_toInt_lt, Int32.le_iff_toInt_le, gt_iff_lt, ge_iff_le] at *; split <;> first | rfl | (exfalso; omega), rfl⟩
  refine x_iload_n hC dJ0_min_5 (q := 6) rfl rfl ?_
  refine x_goto hC dJ0_min_6 (tgt := 10) rfl ?_
  exact x_iret hC hr dJ0_min_10 (Nat.le_of_ble_eq_true rfl) (Nat.le_of_ble_eq_true rfl) ⟨by simp only [Int32.lt_iff_toInt_lt, Int32.le_iff_toInt_le, gt_iff_lt, ge_iff_le] at *; split <;> first | rfl | (exfalso; omega), rfl⟩

set_option maxHeartbeats 4000000 in
set_option maxRecDepth 100000 in
theorem m_J0_max_2 {l : Launch} {s0 : State} {D : va_G} (h0 : x0 l s0 D) (g : xG) (x y : Int64) : xMet l s0 D yJ0_max_2 cJ0_max_2 4 (some .long) (xr 0 0 0 0) [.long x, .long y] g (fun r g1 => r = some (.long (if x < y then y else x)) ∧ g1 = g) := by
  refine xMet.of h0 (by decide +kernel) rfl ?_
  intro p e s m args below meth c hC hr hnm
  refine x_lload_n hC dJ0_max_2_0 (q := 1) rfl rfl ?_
  refine x_lload_n hC dJ0_max_2_1 (q := 2) rfl rfl ?_
  refine x_lcmp hC dJ0_max_2_2 (q := 3) rfl ?_
  refine x_if_lt hC dJ0_max_2_3 (q := 6) rfl (tgt := 10) rfl (fun h3 => ?_) (fun h3 => ?_)
  · refine x_lload_n hC dJ0_max_2_10 (q := 11) rfl rfl ?_
    exact x_lret hC hr dJ0_max_2_11 (Nat.le_of_ble_eq_true rfl) (Nat.le_of_ble_eq_true rfl) ⟨by simp only [lg_cmp_lt, lg_cmp_gt, lg_cmp_ge, lg_cmp_eq, Int64.lt_iff_toInt_lt, Int64.le_iff_toInt_le] at *; split <;> first | rfl | (exfalso; omega), rfl⟩
  refine x_lload_n hC dJ0_max_2_6 (q := 7) rfl rfl ?_
  refine x_goto hC dJ0_max_2_7 (tgt := 11) rfl ?_
  exact x_lret hC hr dJ0_max_2_11 (Nat.le_of_ble_eq_true rfl) (Nat.le_of_ble_eq_true rfl) ⟨by simp only [lg_cmp_lt, lg_cmp_gt, lg_cmp_ge, lg_cmp_eq, Int64.lt_iff_toInt_lt, Int64.le_iff_toInt_le] at *; split <;> first | rfl | (exfalso; omega), rfl⟩

set_option maxHeartbeats 4000000 in
set_option maxRecDepth 100000 in
theorem m_J0_min_2 {l : Launch} {s0 : State} {D : va_G} (h0 : x0 l s0 D) (g : xG) (x y : Int64) : xMet l s0 D yJ0_min_2 cJ0_min_2 4 (some .long) (xr 0 0 0 0) [.long x, .long y] g (fun r g1 => r = some (.long (if y < x then y else x)) ∧ g1 = g) := by
  refine xMet.of h0 (by decide +kernel) rfl ?_
  intro p e s m args below meth c hC hr hnm
  refine x_lload_n hC dJ0_min_2_0 (q := 1) rfl rfl ?_
  refine x_lload_n hC dJ0_min_2_1 (q := 2) rfl rfl ?_
  refine x_lcmp hC dJ0_min_2_2 (q := 3) rfl ?_
  refine x_if_gt hC dJ0_min_2_3 (q := 6) rfl (tgt := 10) rfl (fun h3 => ?_) (fun h3 => ?_)
  · refine x_lload_n hC dJ0_min_2_10 (q := 11) rfl rfl ?_
    exact x_lret hC hr dJ0_min_2_11 (Nat.le_of_ble_eq_true rfl) (Nat.le_of_ble_eq_true rfl) ⟨by simp only [lg_cmp_lt, lg_cmp_gt, lg_cmp_ge, lg_cmp_eq, Int64.lt_iff_toInt_lt, Int64.le_iff_toInt_le] at *; split <;> first | rfl | (exfalso; omega), rfl⟩
  refine x_lload_n hC dJ0_min_2_6 (q := 7) rfl rfl ?_
  refine x_goto hC dJ0_min_2_7 (tgt := 11) rfl ?_
  exact x_lret hC hr dJ0_min_2_11 (Nat.le_of_ble_eq_true rfl) (Nat.le_of_ble_eq_true rfl) ⟨by simp only [lg_cmp_lt, lg_cmp_gt, lg_cmp_ge, lg_cmp_eq, Int64.lt_iff_toInt_lt, Int64.le_iff_toInt_le] at *; split <;> first | rfl | (exfalso; omega), rfl⟩

set_option maxHeartbeats 4000000 in
set_option maxRecDepth 100000 in
theorem m_J0_abs {l : Launch} {s0 : State} {D : va_G} (h0 : x0 l s0 D) (g : xG) (x : Int32) : xMet l s0 D yJ0_abs cJ0_abs 1 (some .int) (xr 0 0 0 0) [.int x] g (fun r g1 => r = some (.int (if 0 ≤ x then x else -x)) ∧ g1 = g) := by
  refine xMet.of h0 (by decide +kernel) rfl ?_
  intro p e s m args below meth c hC hr hnm
  refine x_iload_n hC dJ0_abs_0 (q := 1) rfl rfl ?_
  refine x_if_ge hC dJ0_abs_1 (q := 4) rfl (tgt := 9) rfl (fun h1 => ?_) (fun h1 => ?_)
  · refine x_iload_n hC dJ0_abs_9 (q := 10) rfl rfl ?_
    exact x_iret hC hr dJ0_abs_10 (Nat.le_of_ble_eq_true rfl) (Nat.le_of_ble_eq_true rfl) ⟨by simp only [Int32.lt_iff_toInt_lt, Int32.le_iff_toInt_le, gt_iff_lt, ge_iff_le] at *; split <;> first | rfl | (exfalso; omega), rfl⟩
  refine x_iload_n hC dJ0_abs_4 (q := 5) rfl rfl ?_
  refine x_ineg hC dJ0_abs_5 (q := 6) rfl ?_
  refine x_goto hC dJ0_abs_6 (tgt := 10) rfl ?_
  exact x_iret hC hr dJ0_abs_10 (Nat.le_of_ble_eq_true rfl) (Nat.le_of_ble_eq_true rfl) ⟨by simp only [Int32.lt_iff_toInt_lt, Int32.le_iff_toInt_le, gt_iff_lt, ge_iff_le] at *; split <;> first | rfl | (exfalso; omega), rfl⟩

def jmod32 (x y : Int32) : Int32 := if 0 ≤ x ^^^ y then x - x / y * y else if x - x / y * y = 0 then x - x / y * y else x - x / y * y + y
def jmod64 (x y : Int64) : Int64 := if 0 ≤ x ^^^ y then x - x / y * y else if x - x / y * y = 0 then x - x / y * y else x - x / y * y + y
def jdiv64 (x y : Int64) : Int64 := if 0 ≤ x ^^^ y then x / y else if x / y * y = x then x / y else x / y - 1

set_option maxHeartbeats 4000000 in
set_option maxRecDepth 100000 in
theorem m_J0_floorMod {l : Launch} {s0 : State} {D : va_G} (h0 : x0 l s0 D) (g : xG) (x y : Int32) (hy : ¬ y = 0) : xMet l s0 D yJ0_floorMod cJ0_floorMod 3 (some .int) (xr 0 0 0 0) [.int x, .int y] g (fun r g1 => r = some (.int (jmod32 x y)) ∧ g1 = g) := by
  refine xMet.of h0 (by decide +kernel) rfl ?_
  intro p e s m args below meth c hC hr hnm
  refine x_iload_n hC dJ0_floorMod_0 (q := 1) rfl rfl ?_
  refine x_iload_n hC dJ0_floorMod_1 (q := 2) rfl rfl ?_
  refine x_irem hC dJ0_floorMod_2 (q := 3) rfl hy ?_
  refine x_istore_n hC dJ0_floorMod_3 (q := 4) rfl rfl ?_
  refine x_iload_n hC dJ0_floorMod_4 (q := 5) rfl rfl ?_
  refine x_iload_n hC dJ0_floorMod_5 (q := 6) rfl rfl ?_
  refine x_ixor hC dJ0_floorMod_6 (q := 7) rfl ?_
  refine x_if_ge hC dJ0_floorMod_7 (q := 10) rfl (tgt := 18) rfl (fun h7 => ?_) (fun h7 => ?_)
  · refine x_iload_n hC dJ0_floorMod_18 (q := 19) rfl rfl ?_
    exact x_iret hC hr dJ0_floorMod_19 (Nat.le_of_ble_eq_true rfl) (Nat.le_of_ble_eq_true rfl) ⟨by unfold jmod32; simp_all, rfl⟩
  refine x_iload_n hC dJ0_floorMod_10 (q := 11) rfl rfl ?_
  refine x_if_eq hC dJ0_floorMod_11 (q := 14) rfl (tgt := 18) rfl (fun h11 => ?_) (fun h11 => ?_)
  · refine x_iload_n hC dJ0_floorMod_18 (q := 19) rfl rfl ?_
    exact x_iret hC hr dJ0_floorMod_19 (Nat.le_of_ble_eq_true rfl) (Nat.le_of_ble_eq_true rfl) ⟨by unfold jmod32; simp_all, rfl⟩
  refine x_iload_n hC dJ0_floorMod_14 (q := 15) rfl rfl ?_
  refine x_iload_n hC dJ0_floorMod_15 (q := 16) rfl rfl ?_
  refine x_iadd hC dJ0_floorMod_16 (q := 17) rfl ?_
  exact x_iret hC hr dJ0_floorMod_17 (Nat.le_of_ble_eq_true rfl) (Nat.le_of_ble_eq_true rfl) ⟨by unfold jmod32; simp_all, rfl⟩

set_option maxHeartbeats 4000000 in
set_option maxRecDepth 100000 in
theorem m_J0_floorMod_2 {l : Launch} {s0 : State} {D : va_G} (h0 : x0 l s0 D) (g : xG) (x y : Int64) (hy : ¬ y = 0) : xMet l s0 D yJ0_floorMod_2 cJ0_floorMod_2 6 (some .long) (xr 0 0 0 0) [.long x, .long y] g (fun r g1 => r = some (.long (jmod64 x y)) ∧ g1 = g) := by
  refine xMet.of h0 (by decide +kernel) rfl ?_
  intro p e s m args below meth c hC hr hnm
  refine x_lload_n hC dJ0_floorMod_2_0 (q := 1) rfl rfl ?_
  refine x_lload_n hC dJ0_floorMod_2_1 (q := 2) rfl rfl ?_
  refine x_lrem hC dJ0_floorMod_2_2 (q := 3) rfl hy ?_
  refine x_lstore hC dJ0_floorMod_2_3 (q := 5) rfl rfl ?_
  refine x_lload_n hC dJ0_floorMod_2_5 (q := 6) rfl rfl ?_
  refine x_lload_n hC dJ0_floorMod_2_6 (q := 7) rfl rfl ?_
  refine x_lxor hC dJ0_floorMod_2_7 (q := 8) rfl ?_
  refine x_lconst hC dJ0_floorMod_2_8 (q := 9) rfl (v := 0) (by decide) ?_
  refine x_lcmp hC dJ0_floorMod_2_9 (q := 10) rfl ?_
  refine x_if_ge hC dJ0_floorMod_2_10 (q := 13) rfl (tgt := 25) rfl (fun h10 => ?_) (fun h10 => ?_)
  · refine x_lload hC dJ0_floorMod_2_25 (q := 27) rfl rfl ?_
    exact x_lret hC hr dJ0_floorMod_2_27 (Nat.le_of_ble_eq_true rfl) (Nat.le_of_ble_eq_true rfl) ⟨by unfold jmod64; simp only [lg_cmp_ge, lg_cmp_eq] at *; simp_all, rfl⟩
  refine x_lload hC dJ0_floorMod_2_13 (q := 15) rfl rfl ?_
  refine x_lconst hC dJ0_floorMod_2_15 (q := 16) rfl (v := 0) (by decide) ?_
  refine x_lcmp hC dJ0_floorMod_2_16 (q := 17) rfl ?_
  refine x_if_eq hC dJ0_floorMod_2_17 (q := 20) rfl (tgt := 25) rfl (fun h17 => ?_) (fun h17 => ?_)
  · refine x_lload hC dJ0_floorMod_2_25 (q := 27) rfl rfl ?_
    exact x_lret hC hr dJ0_floorMod_2_27 (Nat.le_of_ble_eq_true rfl) (Nat.le_of_ble_eq_true rfl) ⟨by unfold jmod64; simp only [lg_cmp_ge, lg_cmp_eq] at *; simp_all, rfl⟩
  refine x_lload hC dJ0_floorMod_2_20 (q := 22) rfl rfl ?_
  refine x_lload_n hC dJ0_floorMod_2_22 (q := 23) rfl rfl ?_
  refine x_ladd hC dJ0_floorMod_2_23 (q := 24) rfl ?_
  exact x_lret hC hr dJ0_floorMod_2_24 (Nat.le_of_ble_eq_true rfl) (Nat.le_of_ble_eq_true rfl) ⟨by unfold jmod64; simp only [lg_cmp_ge, lg_cmp_eq] at *; simp_all, rfl⟩

set_option maxHeartbeats 4000000 in
set_option maxRecDepth 100000 in
theorem m_J0_floorDiv {l : Launch} {s0 : State} {D : va_G} (h0 : x0 l s0 D) (g : xG) (x y : Int64) (hy : ¬ y = 0) : xMet l s0 D yJ0_floorDiv cJ0_floorDiv 6 (some .long) (xr 0 0 0 0) [.long x, .long y] g (fun r g1 => r = some (.long (jdiv64 x y)) ∧ g1 = g) := by
  refine xMet.of h0 (by decide +kernel) rfl ?_
  intro p e s m args below meth c hC hr hnm
  refine x_lload_n hC dJ0_floorDiv_0 (q := 1) rfl rfl ?_
  refine x_lload_n hC dJ0_floorDiv_1 (q := 2) rfl rfl ?_
  refine x_ldiv hC dJ0_floorDiv_2 (q := 3) rfl hy ?_
  refine x_lstore hC dJ0_floorDiv_3 (q := 5) rfl rfl ?_
  refine x_lload_n hC dJ0_floorDiv_5 (q := 6) rfl rfl ?_
  refine x_lload_n hC dJ0_floorDiv_6 (q := 7) rfl rfl ?_
  refine x_lxor hC dJ0_floorDiv_7 (q := 8) rfl ?_
  refine x_lconst hC dJ0_floorDiv_8 (q := 9) rfl (v := 0) (by decide) ?_
  refine x_lcmp hC dJ0_floorDiv_9 (q := 10) rfl ?_
  refine x_if_ge hC dJ0_floorDiv_10 (q := 13) rfl (tgt := 27) rfl (fun h10 => ?_) (fun h10 => ?_)
  · refine x_lload hC dJ0_floorDiv_27 (q := 29) rfl rfl ?_
    exact x_lret hC hr dJ0_floorDiv_29 (Nat.le_of_ble_eq_true rfl) (Nat.le_of_ble_eq_true rfl) ⟨by unfold jdiv64; rw [lg_cmp_ge] at h10; first | rw [if_pos h10] | (rw [lg_cmp_eq] at h19; first | rw [if_neg h10, if_pos h19] | rw [if_neg h10, if_neg h19]), rfl⟩
  refine x_lload hC dJ0_floorDiv_13 (q := 15) rfl rfl ?_
  refine x_lload_n hC dJ0_floorDiv_15 (q := 16) rfl rfl ?_
  refine x_lmul hC dJ0_floorDiv_16 (q := 17) rfl ?_
  refine x_lload_n hC dJ0_floorDiv_17 (q := 18) rfl rfl ?_
  refine x_lcmp hC dJ0_floorDiv_18 (q := 19) rfl ?_
  refine x_if_eq hC dJ0_floorDiv_19 (q := 22) rfl (tgt := 27) rfl (fun h19 => ?_) (fun h19 => ?_)
  · refine x_lload hC dJ0_floorDiv_27 (q := 29) rfl rfl ?_
    exact x_lret hC hr dJ0_floorDiv_29 (Nat.le_of_ble_eq_true rfl) (Nat.le_of_ble_eq_true rfl) ⟨by unfold jdiv64; rw [lg_cmp_ge] at h10; first | rw [if_pos h10] | (rw [lg_cmp_eq] at h19; first | rw [if_neg h10, if_pos h19] | rw [if_neg h10, if_neg h19]), rfl⟩
  refine x_lload hC dJ0_floorDiv_22 (q := 24) rfl rfl ?_
  refine x_lconst hC dJ0_floorDiv_24 (q := 25) rfl (v := 1) (by decide) ?_
  refine x_lsub hC dJ0_floorDiv_25 (q := 26) rfl ?_
  exact x_lret hC hr dJ0_floorDiv_26 (Nat.le_of_ble_eq_true rfl) (Nat.le_of_ble_eq_true rfl) ⟨by unfold jdiv64; rw [lg_cmp_ge] at h10; first | rw [if_pos h10] | (rw [lg_cmp_eq] at h19; first | rw [if_neg h10, if_pos h19] | rw [if_neg h10, if_neg h19]), rfl⟩

def jbits (x : Int32) : Int32 :=
  let u (x y : Int32) : Int32 := (x.toUInt32 >>> (y.toUInt32 &&& Int32.toUInt32 31)).toInt32
  let a := x - (u x 1 &&& 1431655765)
  let b := (a &&& 858993459) + (u a 2 &&& 858993459)
  let c := (b + u b 4) &&& 252645135
  let d := c + u c 8
  let e := d + u d 16
  e &&& 63

set_option maxHeartbeats 4000000 in
set_option maxRecDepth 100000 in
theorem m_J12_bitCount {l : Launch} {s0 : State} {D : va_G} (h0 : x0 l s0 D) (g : xG) (x : Int32) : xMet l s0 D yJ12_bitCount cJ12_bitCount 1 (some .int) (xr 0 0 0 0) [.int x] g (fun r g1 => r = some (.int (jbits x)) ∧ g1 = g) := by
  refine xMet.of h0 (by decide +kernel) rfl ?_
  intro p e s m args below meth c hC hr hnm
  refine x_iload_n hC dJ12_bitCount_0 (q := 1) rfl rfl ?_
  refine x_iload_n hC dJ12_bitCount_1 (q := 2) rfl rfl ?_
  refine x_iconst hC dJ12_bitCount_2 (q := 3) rfl (v := (1)) (by decide) ?_
  refine x_iushr hC dJ12_bitCount_3 (q := 4) rfl ?_
  refine x_ldc_w hC dJ12_bitCount_4 (q := 7) rfl q1736 ?_
  refine x_iand hC dJ12_bitCount_7 (q := 8) rfl ?_
  refine x_isub hC dJ12_bitCount_8 (q := 9) rfl ?_
  refine x_istore_n hC dJ12_bitCount_9 (q := 10) rfl rfl ?_
  refine x_iload_n hC dJ12_bitCount_10 (q := 11) rfl rfl ?_
  refine x_ldc_w hC dJ12_bitCount_11 (q := 14) rfl q1737 ?_
  refine x_iand hC dJ12_bitCount_14 (q := 15) rfl ?_
  refine x_iload_n hC dJ12_bitCount_15 (q := 16) rfl rfl ?_
  refine x_iconst hC dJ12_bitCount_16 (q := 17) rfl (v := (2)) (by decide) ?_
  refine x_iushr hC dJ12_bitCount_17 (q := 18) rfl ?_
  refine x_ldc_w hC dJ12_bitCount_18 (q := 21) rfl q1737 ?_
  refine x_iand hC dJ12_bitCount_21 (q := 22) rfl ?_
  refine x_iadd hC dJ12_bitCount_22 (q := 23) rfl ?_
  refine x_istore_n hC dJ12_bitCount_23 (q := 24) rfl rfl ?_
  refine x_iload_n hC dJ12_bitCount_24 (q := 25) rfl rfl ?_
  refine x_iload_n hC dJ12_bitCount_25 (q := 26) rfl rfl ?_
  refine x_iconst hC dJ12_bitCount_26 (q := 27) rfl (v := (4)) (by decide) ?_
  refine x_iushr hC dJ12_bitCount_27 (q := 28) rfl ?_
  refine x_iadd hC dJ12_bitCount_28 (q := 29) rfl ?_
  refine x_ldc_w hC dJ12_bitCount_29 (q := 32) rfl q1738 ?_
  refine x_iand hC dJ12_bitCount_32 (q := 33) rfl ?_
  refine x_istore_n hC dJ12_bitCount_33 (q := 34) rfl rfl ?_
  refine x_iload_n hC dJ12_bitCount_34 (q := 35) rfl rfl ?_
  refine x_iload_n hC dJ12_bitCount_35 (q := 36) rfl rfl ?_
  refine x_bipush hC dJ12_bitCount_36 (q := 38) rfl (v := (8)) (by decide) ?_
  refine x_iushr hC dJ12_bitCount_38 (q := 39) rfl ?_
  refine x_iadd hC dJ12_bitCount_39 (q := 40) rfl ?_
  refine x_istore_n hC dJ12_bitCount_40 (q := 41) rfl rfl ?_
  refine x_iload_n hC dJ12_bitCount_41 (q := 42) rfl rfl ?_
  refine x_iload_n hC dJ12_bitCount_42 (q := 43) rfl rfl ?_
  refine x_bipush hC dJ12_bitCount_43 (q := 45) rfl (v := (16)) (by decide) ?_
  refine x_iushr hC dJ12_bitCount_45 (q := 46) rfl ?_
  refine x_iadd hC dJ12_bitCount_46 (q := 47) rfl ?_
  refine x_istore_n hC dJ12_bitCount_47 (q := 48) rfl rfl ?_
  refine x_iload_n hC dJ12_bitCount_48 (q := 49) rfl rfl ?_
  refine x_bipush hC dJ12_bitCount_49 (q := 51) rfl (v := (63)) (by decide) ?_
  refine x_iand hC dJ12_bitCount_51 (q := 52) rfl ?_
  exact x_iret hC hr dJ12_bitCount_52 (Nat.le_of_ble_eq_true rfl) (Nat.le_of_ble_eq_true rfl) ⟨rfl, rfl⟩
