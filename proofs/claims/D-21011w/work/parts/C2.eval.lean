/-! longs as mathematical integers -/
def lB (z : Int) : Prop := -9223372036854775808 ≤ z ∧ z < 9223372036854775808
theorem lI_toInt {z : Int} (h : lB z) : (lI z).toInt = z := Int64.toInt_ofInt_of_le (by have := h.1; simpa using this) (by have := h.2; simpa using this)
theorem lI_self (x : Int64) : lI x.toInt = x := Int64.ofInt_toInt x
theorem lI_add (a b : Int) : lI a + lI b = lI (a + b) := (Int64.ofInt_add a b).symm
theorem lI_sub (a b : Int) : lI a - lI b = lI (a - b) := (Int64.ofInt_sub a b).symm
theorem lI_mul (a b : Int) : lI a * lI b = lI (a * b) := (Int64.ofInt_mul a b).symm
theorem lI_lt {a b : Int} (ha : lB a) (hb : lB b) : lI a < lI b ↔ a < b := by rw [Int64.lt_iff_toInt_lt, lI_toInt ha, lI_toInt hb]
theorem lI_le {a b : Int} (ha : lB a) (hb : lB b) : lI a ≤ lI b ↔ a ≤ b := by rw [Int64.le_iff_toInt_le, lI_toInt ha, lI_toInt hb]
theorem lI_eq {a b : Int} (ha : lB a) (hb : lB b) : lI a = lI b ↔ a = b := by rw [← Int64.toInt_inj, lI_toInt ha, lI_toInt hb]
theorem lB_of (x : Int64) : lB x.toInt := ⟨by have := x.le_toInt; omega, by have := x.toInt_lt; omega⟩
theorem l32 {z : Int} (h : iB z) : (lI z).toInt32 = iI z := by
  rw [← lI_of h]
  exact Int32.toInt32_toInt64 _
theorem xor_sg64 (x y : Int64) (hy : 0 ≤ y.toInt) : (0 ≤ x ^^^ y) ↔ 0 ≤ x.toInt := by
  have h : ∀ z : Int64, z.toBitVec.msb = decide (z.toInt < 0) := fun z => BitVec.msb_eq_toInt
  have e : (x ^^^ y).toBitVec.msb = (x.toBitVec.msb ^^ y.toBitVec.msb) := by rw [Int64.toBitVec_xor, BitVec.msb_xor]
  rw [h, h, h, decide_eq_false (show ¬ y.toInt < 0 by omega), Bool.xor_false] at e
  have e2 : (x ^^^ y).toInt < 0 ↔ x.toInt < 0 := decide_eq_decide.mp e
  rw [Int64.le_iff_toInt_le]
  show (0 : Int) ≤ _ ↔ _
  omega
theorem l_div {a : Int} {n : Nat} (h1 : 0 ≤ a) (h2 : a < 1000000000) (h0 : 0 < n) (hn : n < 100000) : lI a / lI (n : Int) = lI (a / n) := by
  have e1 : (lI (n : Int)).toInt = n := lI_toInt ⟨by omega, by omega⟩
  have e2 : (lI a).toInt = a := lI_toInt ⟨by omega, by omega⟩
  have h3 : (lI a / lI (n : Int)).toInt = a / n := by
    rw [Int64.toInt_div_of_ne_right _ _ (fun q => by
      have := congrArg Int64.toInt q
      rw [e1] at this
      exact absurd this (by show ¬ (n : Int) = -1; omega)), e1, e2, Int.tdiv_eq_ediv_of_nonneg h1]
  rw [← h3, lI_self]
theorem jdivL {a : Int} {n : Nat} (h1 : 0 ≤ a) (h2 : a < 1000000000) (h0 : 0 < n) (hn : n < 100000) : jdiv64 (lI a) (lI (n : Int)) = lI (a / n) := by
  unfold jdiv64
  rw [if_pos ((xor_sg64 _ _ (by rw [lI_toInt ⟨by omega, by omega⟩]; omega)).mpr (by rw [lI_toInt ⟨by omega, by omega⟩]; exact h1)), l_div h1 h2 h0 hn]
theorem jmodL {a : Int} {n : Nat} (h1 : 0 ≤ a) (h2 : a < 1000000000) (h0 : 0 < n) (hn : n < 100000) : jmod64 (lI a) (lI (n : Int)) = lI (a % n) := by
  unfold jmod64
  rw [if_pos ((xor_sg64 _ _ (by rw [lI_toInt ⟨by omega, by omega⟩]; omega)).mpr (by rw [lI_toInt ⟨by omega, by omega⟩]; exact h1)), l_div h1 h2 h0 hn, lI_mul, lI_sub]
  congr 1
  have := Int.mul_ediv_add_emod a n
  rw [Int.mul_comm] at this
  omega
theorem kclipL {z : Int} (h : -1000000 ≤ z ∧ z ≤ 1000000) : kclip (lI z) = lI z := by
  have i1 : (lI z < (1000000 : Int64)) ↔ z < 1000000 := lI_lt (b := 1000000) ⟨by omega, by omega⟩ ⟨by decide, by decide⟩
  have i2 : ((-1000000 : Int64) < lI z) ↔ -1000000 < z := by
    rw [show (-1000000 : Int64) = lI (-1000000) by decide]
    exact lI_lt ⟨by decide, by decide⟩ ⟨by omega, by omega⟩
  have e1 : (if lI z < 1000000 then lI z else 1000000) = lI z := by
    by_cases q : z < 1000000
    · rw [if_pos (i1.mpr q)]
    · rw [if_neg (fun w => q (i1.mp w)), show z = 1000000 by omega]; rfl
  unfold kclip
  rw [e1]
  by_cases q : -1000000 < z
  · rw [if_pos (i2.mpr q)]
  · rw [if_neg (fun w => q (i2.mp w)), show z = -1000000 by omega]; rfl
theorem aJ_a {a b : Int} (h : -1000000 ≤ a + b ∧ a + b ≤ 1000000) : aJ (nI 43) (lI a) (lI b) = lI (a + b) := by
  show kclip (lI a + lI b) = _
  rw [lI_add, kclipL h]
theorem aJ_s {a b : Int} (h : -1000000 ≤ a - b ∧ a - b ≤ 1000000) : aJ (nI 45) (lI a) (lI b) = lI (a - b) := by
  show kclip (lI a - lI b) = _
  rw [lI_sub, kclipL h]
theorem aJ_m {a b : Int} (h : -1000000 ≤ a * b ∧ a * b ≤ 1000000) : aJ (nI 42) (lI a) (lI b) = lI (a * b) := by
  show kclip (lI a * lI b) = _
  rw [lI_mul, kclipL h]
theorem aJ_d {a : Int} {n : Nat} (h1 : 0 ≤ a) (h2 : a < 1000000000) (h0 : 0 < n) (hn : n < 100000) : aJ (nI 47) (lI a) (lI (n : Int)) = lI (a / n) := by
  show (if lI (n : Int) = 0 then (0 : Int64) else jdiv64 (lI a) (lI (n : Int))) = _
  rw [if_neg (fun q => by
    have := (lI_eq (b := 0) ⟨by omega, by omega⟩ ⟨by decide, by decide⟩).mp q
    omega), jdivL h1 h2 h0 hn]
theorem aJ_r {a : Int} {n : Nat} (h1 : 0 ≤ a) (h2 : a < 1000000000) (h0 : 0 < n) (hn : n < 100000) : aJ (nI 37) (lI a) (lI (n : Int)) = lI (a % n) := by
  show (if lI (n : Int) = 0 then (0 : Int64) else jmod64 (lI a) (lI (n : Int))) = _
  rw [if_neg (fun q => by
    have := (lI_eq (b := 0) ⟨by omega, by omega⟩ ⟨by decide, by decide⟩).mp q
    omega), jmodL h1 h2 h0 hn]
theorem aC_l {a b : Int} (ha : lB a) (hb : lB b) : aCmp (nI 60) (lI a) (lI b) = if a < b then 1 else 0 := by
  show (if lI a < lI b then (1 : Int64) else 0) = _
  by_cases h : a < b
  · rw [if_pos h, if_pos ((lI_lt ha hb).mpr h)]
  · rw [if_neg h, if_neg (fun q => h ((lI_lt ha hb).mp q))]
theorem aC_g {a b : Int} (ha : lB a) (hb : lB b) : aCmp (nI 62) (lI a) (lI b) = if b < a then 1 else 0 := by
  show (if lI b < lI a then (1 : Int64) else 0) = _
  by_cases h : b < a
  · rw [if_pos h, if_pos ((lI_lt hb ha).mpr h)]
  · rw [if_neg h, if_neg (fun q => h ((lI_lt hb ha).mp q))]
theorem aC_e {a b : Int} (ha : lB a) (hb : lB b) : aCmp (nI 61) (lI a) (lI b) = if a = b then 1 else 0 := by
  show (if lI a = lI b then (1 : Int64) else 0) = _
  by_cases h : a = b
  · rw [if_pos h, if_pos ((lI_eq ha hb).mpr h)]
  · rw [if_neg h, if_neg (fun q => h ((lI_eq ha hb).mp q))]
theorem kcutL {z : Int} (h : lB z) : kcut (lI z) 99 = iI (kWi z) := by
  unfold kcut kWi
  rw [show ((99 : Int32).toInt64) = lI 99 by decide]
  have e1 : (if lI z < lI 99 then lI z else lI 99) = lI (min 99 z) := by
    by_cases q : z < 99
    · rw [if_pos ((lI_lt h ⟨by decide, by decide⟩).mpr q), Int.min_eq_right (by omega)]
    · rw [if_neg (fun w => q ((lI_lt h ⟨by decide, by decide⟩).mp w)), Int.min_eq_left (by omega)]
  rw [e1]
  have hm : lB (min 99 z) := ⟨by have := h.1; omega, by omega⟩
  have i2 : ((0 : Int64) < lI (min 99 z)) ↔ 0 < min 99 z := lI_lt (a := 0) ⟨by decide, by decide⟩ hm
  by_cases q : 0 < min 99 z
  · rw [if_pos (i2.mpr q), Int.max_eq_right (by omega), l32 ⟨by omega, by omega⟩]
  · rw [if_neg (fun w => q (i2.mp w)), Int.max_eq_left (by omega)]
    rfl
theorem kWi_b (z : Int) : 0 ≤ kWi z ∧ kWi z ≤ 99 := by unfold kWi; omega
theorem kWi_id {z : Int} (h : 0 ≤ z ∧ z ≤ 99) : kWi z = z := by unfold kWi; omega
theorem eC_i (σ : KS) (c : Nat) (x y : Int32) : eC σ e00 c x y 0 = x.toInt64 ∧ eC σ e00 c x y 1 = (iI (kI σ 3 0)).toInt64 ∧ eC σ e00 c x y 2 = (iI (kI σ 31 c)).toInt64 ∧ eC σ e00 c x y 3 = (iI (kI σ 32 c)).toInt64 ∧ eC σ e00 c x y 4 = y.toInt64 := ⟨rfl, rfl, rfl, rfl, rfl⟩
theorem fVl_d4 {k : Nat} (hk : k = 70 ∨ k = 72 ∨ k = 73) {e e' : aEnv} (h0 : e 0 = e' 0) (h1 : e 1 = e' 1) (h2 : e 2 = e' 2) (h3 : e 3 = e' 3) : fVl k e = fVl k e' := by
  rcases hk with rfl | rfl | rfl <;> simp only [fVl, h0, h1, h2, h3]
theorem n_2 : (nI (sN [50])).toInt64 = lI ((2 : Nat) : Int) := by decide +kernel
theorem fV70 (e : aEnv) : fVl 70 e = aJ (nI 45) (aJ (nI 43) (e 2) (aJ (nI 42) (e 0) (lI ((2 : Nat) : Int)))) (e 3) := by
  simp only [fVl, n_2]
theorem fV71 (e : aEnv) : fVl 71 e = aJ (nI 43) (aJ (nI 42) (e 0) (e 4)) (aJ (nI 47) (e 2) (lI ((2 : Nat) : Int))) := by
  simp only [fVl, n_2]
/-- the rings that a child gets -/
def aZ (σ : KS) (α : aA) (c : Nat) (h p : Int) : Int := (kTemp (aFo α) σ c (iI h) (iI p)).toInt
theorem lI_n (n : Nat) (hn : n < 2147483648) : (nI n).toInt64 = lI (n : Int) := by rw [← iI_nat, lI_of (iB_nat hn)]
theorem aTemp {σ : KS} {α : aA} (hok : aOk α) (hl : LT σ α) {c : Nat} (hc : c < aI α 0) {h p : Int} (hh : 0 ≤ h ∧ h ≤ 20) (hp : 0 ≤ p ∧ p ≤ 6) : ∃ z, kTemp (aFo α) σ c (iI h) (iI p) = iI z ∧ 0 ≤ z ∧ z ≤ 99 ∧ aRg α c h p z = z ∧ (¬ aI α 2 = 2 → ∀ y : Int32, kTemp (aFo α) σ c (iI h) y = iI z) := by
  have hcl := hok.2.2.2.2.2.2.2.2.2.1 c
  have hgr := hok.2.2.2.2.2.2.2.2.2.2.1 c
  obtain ⟨hk1, hk2⟩ := hl.2.2.1 c hc
  have hf := (aFo_f α).1
  have ht := hok.2.2.1
  obtain ⟨e0, e1, e2, e3, e4⟩ := eC_i σ c (iI h) (iI p)
  rw [lI_of ⟨by omega, by omega⟩] at e0 e4
  rw [hk1, lI_of ⟨by omega, by omega⟩] at e2
  rw [hk2, lI_of ⟨by omega, by omega⟩] at e3
  have hany : ∀ v : Int64, ∃ z, kcut v 99 = iI z ∧ 0 ≤ z ∧ z ≤ 99 := fun v => ⟨kWi v.toInt, by rw [← kcutL (lB_of v), lI_self], (kWi_b _).1, (kWi_b _).2⟩
  have hdep : ∀ k, 70 ≤ k → k < 74 → k ≠ 71 → ∀ y : Int32, fVl k (eC σ e00 c (iI h) y) = fVl k (eC σ e00 c (iI h) (iI p)) := fun k q1 q2 q3 y => by
    obtain ⟨d0, d1, d2, d3, -⟩ := eC_i σ c (iI h) y
    obtain ⟨f0, f1, f2, f3, -⟩ := eC_i σ c (iI h) (iI p)
    exact fVl_d4 (by omega) (d0.trans f0.symm) (d1.trans f1.symm) (d2.trans f2.symm) (d3.trans f3.symm)
  by_cases t0 : aI α 2 = 0
  · rw [if_pos t0] at hf
    have e : ∀ y : Int32, kTemp (aFo α) σ c (iI h) y = iI (kWi (4 * h)) := fun y => by
      unfold kTemp
      rw [hf]
      dsimp only
      rw [lI_of ⟨by omega, by omega⟩, show (4 : Int64) = lI 4 by decide +kernel, lI_mul, kcutL ⟨by omega, by omega⟩]
    refine ⟨_, e _, (kWi_b _).1, (kWi_b _).2, ?_, fun _ => e⟩
    unfold aRg
    rw [if_pos t0]
  rw [if_neg t0] at hf
  have ek : ∀ y : Int32, kTemp (aFo α) σ c (iI h) y = kcut (fVl (70 + (aI α 2 - 1)) (eC σ e00 c (iI h) y)) 99 := fun y => by
    unfold kTemp
    rw [hf]
  by_cases t1 : aI α 2 = 1
  · have e : fVl 70 (eC σ e00 c (iI h) (iI p)) = lI ((aCl α c : Int) + 2 * h - (aGr α c : Int)) := by
      rw [fV70, e2, e0, e3, aJ_m ⟨by omega, by omega⟩, aJ_a ⟨by omega, by omega⟩, aJ_s ⟨by omega, by omega⟩]
      congr 1
      omega
    have ez : ∀ y : Int32, kTemp (aFo α) σ c (iI h) y = iI (kWi ((aCl α c : Int) + 2 * h - (aGr α c : Int))) := fun y => by
      rw [ek, t1, hdep (70 + (1 - 1)) (by decide) (by decide) (by decide) y]
      rw [show 70 + (1 - 1) = 70 from rfl, e, kcutL ⟨by omega, by omega⟩]
    refine ⟨_, ez _, (kWi_b _).1, (kWi_b _).2, ?_, fun _ => ez⟩
    unfold aRg
    rw [if_neg t0, if_pos t1]
  by_cases t2 : aI α 2 = 2
  · have hhp : 0 ≤ h * p ∧ h * p ≤ 120 := ⟨Int.mul_nonneg hh.1 hp.1, by
      have := Int.mul_le_mul hh.2 hp.2 hp.1 (by omega)
      omega⟩
    have e : fVl 71 (eC σ e00 c (iI h) (iI p)) = lI (h * p + (aCl α c : Int) / 2) := by
      rw [fV71, e2, e0, e4, aJ_m ⟨by omega, by omega⟩, aJ_d (by omega) (by omega) (by decide) (by decide), aJ_a ⟨by omega, by omega⟩]
      rfl
    refine ⟨kWi (h * p + (aCl α c : Int) / 2), ?_, (kWi_b _).1, (kWi_b _).2, ?_, fun q => absurd t2 q⟩
    · rw [ek, t2]
      rw [show 70 + (2 - 1) = 71 from rfl, e, kcutL ⟨by omega, by omega⟩]
    · unfold aRg
      rw [if_neg t0, if_neg t1]
      by_cases hp0 : p = 0
      · rw [if_pos ⟨t2, hp0⟩, hp0, Int.mul_zero, kWi_id ⟨by omega, by omega⟩]
        omega
      · rw [if_neg (fun q => hp0 q.2)]
  · obtain ⟨z, h1, h2, h3⟩ := hany (fVl (70 + (aI α 2 - 1)) (eC σ e00 c (iI h) (iI p)))
    refine ⟨z, by rw [ek, h1], h2, h3, ?_, fun _ y => by rw [ek, hdep _ (by omega) (by omega) (by omega) y, h1]⟩
    unfold aRg
    rw [if_neg t0, if_neg t1, if_neg (fun q => t2 q.1)]
