/-! the values of the other formulas -/
theorem n0_ : (nI (sN [48])).toInt64 = lI ((0 : Nat) : Int) := by decide +kernel
theorem n1_ : (nI (sN [49])).toInt64 = lI ((1 : Nat) : Int) := by decide +kernel
theorem n2_ : (nI (sN [50])).toInt64 = lI ((2 : Nat) : Int) := by decide +kernel
theorem n3_ : (nI (sN [51])).toInt64 = lI ((3 : Nat) : Int) := by decide +kernel
theorem n4_ : (nI (sN [52])).toInt64 = lI ((4 : Nat) : Int) := by decide +kernel
theorem n5_ : (nI (sN [53])).toInt64 = lI ((5 : Nat) : Int) := by decide +kernel
theorem n6_ : (nI (sN [54])).toInt64 = lI ((6 : Nat) : Int) := by decide +kernel
theorem n7_ : (nI (sN [55])).toInt64 = lI ((7 : Nat) : Int) := by decide +kernel
theorem n8_ : (nI (sN [56])).toInt64 = lI ((8 : Nat) : Int) := by decide +kernel
theorem n9_ : (nI (sN [57])).toInt64 = lI ((9 : Nat) : Int) := by decide +kernel
theorem n10_ : (nI (sN [49, 48])).toInt64 = lI ((10 : Nat) : Int) := by decide +kernel
theorem n12_ : (nI (sN [49, 50])).toInt64 = lI ((12 : Nat) : Int) := by decide +kernel
theorem n40_ : (nI (sN [52, 48])).toInt64 = lI ((40 : Nat) : Int) := by decide +kernel
theorem n70_ : (nI (sN [55, 48])).toInt64 = lI ((70 : Nat) : Int) := by decide +kernel
theorem n100_ : (nI (sN [49, 48, 48])).toInt64 = lI ((100 : Nat) : Int) := by decide +kernel
theorem fV74 (e : aEnv) : fVl 74 e = (aCmp (nI 62) (e 5) (lI ((70 : Nat) : Int))) := by
  simp only [fVl, n70_]
theorem fV75 (e : aEnv) : fVl 75 e = (if (aCmp (nI 62) (e 0) (lI ((12 : Nat) : Int))) = 1 then (if (aCmp (nI 60) (e 3) (lI ((4 : Nat) : Int))) = 1 then 1 else (if (1 : Int64) = 0 then 1 else 0)) else (if (1 : Int64) = 0 then 1 else 0)) := by
  simp only [fVl, n4_, n12_]
theorem fV76 (e : aEnv) : fVl 76 e = (aCmp (nI 61) (aJ (nI 37) (e 5) (lI ((7 : Nat) : Int))) (lI ((0 : Nat) : Int))) := by
  simp only [fVl, n0_, n7_]
theorem fV77 (e : aEnv) : fVl 77 e = (if (aCmp (nI 61) (e 4) (lI ((0 : Nat) : Int))) = 1 then (if (aCmp (nI 62) (aJ (nI 42) (e 0) (lI ((2 : Nat) : Int))) (e 2)) = 1 then 1 else (if (1 : Int64) = 0 then 1 else 0)) else (if (1 : Int64) = 0 then 1 else 0)) := by
  simp only [fVl, n0_, n2_]
theorem fV78 (e : aEnv) : fVl 78 e = (aCmp (nI 60) (e 6) (lI ((5 : Nat) : Int))) := by
  simp only [fVl, n5_]
theorem fV79 (e : aEnv) : fVl 79 e = (if (aCmp (nI 60) (e 6) (e 0)) = 1 then (if (aCmp (nI 62) (e 7) (lI ((6 : Nat) : Int))) = 1 then 1 else (if (1 : Int64) = 0 then 1 else 0)) else (if (1 : Int64) = 0 then 1 else 0)) := by
  simp only [fVl, n6_]
theorem fV80 (e : aEnv) : fVl 80 e = (aCmp (nI 61) (aJ (nI 37) (e 6) (lI ((3 : Nat) : Int))) (lI ((1 : Nat) : Int))) := by
  simp only [fVl, n1_, n3_]
theorem fV81 (e : aEnv) : fVl 81 e = (if (aCmp (nI 60) (e 7) (lI ((8 : Nat) : Int))) = 0 then (if (aCmp (nI 61) (e 6) (lI ((0 : Nat) : Int))) = 0 then 0 else (if (0 : Int64) = 0 then 1 else 0)) else (if (0 : Int64) = 0 then 1 else 0)) := by
  simp only [fVl, n0_, n8_]
theorem fV82 (e : aEnv) : fVl 82 e = (aJ (nI 42) (e 0) (e 8)) := by
  simp only [fVl, ]
theorem fV83 (e : aEnv) : fVl 83 e = (aJ (nI 43) (aJ (nI 43) (e 0) (aJ (nI 42) (e 9) (lI ((3 : Nat) : Int)))) (aJ (nI 37) (e 1) (lI ((2 : Nat) : Int)))) := by
  simp only [fVl, n2_, n3_]
theorem fV84 (e : aEnv) : fVl 84 e = (aJ (nI 45) (aJ (nI 42) (e 8) (lI ((2 : Nat) : Int))) (e 0)) := by
  simp only [fVl, n2_]
theorem fV85 (e : aEnv) : fVl 85 e = (if aCmp (nI 62) (e 0) (lI ((9 : Nat) : Int)) = 0 then lI ((5 : Nat) : Int) else lI ((40 : Nat) : Int)) := by
  simp only [fVl, n5_, n9_, n40_]
theorem eP_ne {f : aEnv} {j i : Nat} {x : Int32} (h : i ≠ j) : ePut f j x i = f i := by simp [ePut, vp_updL, h]
theorem eP_eq (f : aEnv) (j : Nat) (x : Int32) : ePut f j x j = x.toInt64 := by simp [ePut, vp_updL]
theorem and01 (P Q : Prop) [Decidable P] [Decidable Q] : (if (if P then (1 : Int64) else 0) = 1 then (if (if Q then (1 : Int64) else 0) = 1 then (1 : Int64) else (if (1 : Int64) = 0 then 1 else 0)) else (if (1 : Int64) = 0 then 1 else 0)) = if P ∧ Q then 1 else 0 := by
  by_cases h1 : P <;> by_cases h2 : Q <;> simp [h1, h2]
theorem or01 (P Q : Prop) [Decidable P] [Decidable Q] : (if (if P then (1 : Int64) else 0) = 0 then (if (if Q then (1 : Int64) else 0) = 0 then (0 : Int64) else (if (0 : Int64) = 0 then 1 else 0)) else (if (0 : Int64) = 0 then 1 else 0)) = if P ∨ Q then 1 else 0 := by
  by_cases h1 : P <;> by_cases h2 : Q <;> simp [h1, h2]
theorem t01 {P Q : Prop} [Decidable P] [Decidable Q] (h : P ↔ Q) : (if (if P then (1 : Int64) else 0).toInt32 = 0 then (0 : Int32) else 1) = b01 (decide Q) := by
  by_cases h1 : P
  · rw [if_pos h1, decide_eq_true (h.mp h1)]; rfl
  · rw [if_neg h1, decide_eq_false (fun q => h1 (h.mpr q))]; rfl
theorem aCrk {σ : KS} {α : aA} (hok : aOk α) (hl : LT σ α) {c : Nat} (hc : c < aI α 0) {h p z : Int} (hh : 0 ≤ h ∧ h ≤ 20) (hp : 0 ≤ p ∧ p ≤ 6) (hz : 0 ≤ z ∧ z ≤ 99) (hk : kTemp (aFo α) σ c (iI h) (iI p) = iI z) : (if kCrack (aFo α) σ c (iI h) (iI p) = 0 then (0 : Int32) else 1) = b01 (aCk α c z h p) := by
  have hcl := hok.2.2.2.2.2.2.2.2.2.1 c
  have hgr := hok.2.2.2.2.2.2.2.2.2.2.1 c
  obtain ⟨hk1, hk2⟩ := hl.2.2.1 c hc
  have hf := (aFo_f α).2.2.1
  have ht := hok.2.2.2.1
  unfold aCk
  by_cases t0 : aI α 3 = 0
  · rw [if_pos t0] at hf
    rw [if_neg (show ¬ aI α 3 = 1 by omega), if_neg (show ¬ aI α 3 = 2 by omega), if_neg (show ¬ aI α 3 = 3 by omega), if_neg (show ¬ aI α 3 = 4 by omega)]
    unfold kCrack
    rw [hf]
    rfl
  rw [if_neg t0] at hf
  obtain ⟨e, he⟩ : ∃ e, e = ePut (eC σ e00 c (iI h) (iI p)) 5 (kTemp (aFo α) σ c (iI h) (iI p)) := ⟨_, rfl⟩
  have ek : kCrack (aFo α) σ c (iI h) (iI p) = (fVl (74 + (aI α 3 - 1)) e).toInt32 := by
    unfold kCrack
    rw [hf, he]
  have e0 : e 0 = lI h := by rw [he, eP_ne (by decide)]; exact (eC_i σ c (iI h) (iI p)).1.trans (lI_of ⟨by omega, by omega⟩)
  have e2 : e 2 = lI (aCl α c : Int) := by rw [he, eP_ne (by decide)]; exact (eC_i σ c (iI h) (iI p)).2.2.1.trans (by rw [hk1, lI_of ⟨by omega, by omega⟩])
  have e3 : e 3 = lI (aGr α c : Int) := by rw [he, eP_ne (by decide)]; exact (eC_i σ c (iI h) (iI p)).2.2.2.1.trans (by rw [hk2, lI_of ⟨by omega, by omega⟩])
  have e4 : e 4 = lI p := by rw [he, eP_ne (by decide)]; exact (eC_i σ c (iI h) (iI p)).2.2.2.2.trans (lI_of ⟨by omega, by omega⟩)
  have e5 : e 5 = lI z := by
    rw [he, hk, eP_eq]
    exact lI_of ⟨by omega, by omega⟩
  rw [ek]
  by_cases t1 : aI α 3 = 1
  · rw [if_pos t1, t1, show 74 + (1 - 1) = 74 from rfl, fV74, e5, aC_g ⟨by omega, by omega⟩ ⟨by decide, by decide⟩]
    exact t01 Iff.rfl
  rw [if_neg t1]
  by_cases t2 : aI α 3 = 2
  · rw [if_pos t2, t2, show 74 + (2 - 1) = 75 from rfl, fV75, e0, e3, aC_g ⟨by omega, by omega⟩ ⟨by decide, by decide⟩, aC_l ⟨by omega, by omega⟩ ⟨by decide, by decide⟩, and01]
    exact t01 ⟨fun q => ⟨q.1, by have := q.2; omega⟩, fun q => ⟨q.1, by have := q.2; omega⟩⟩
  rw [if_neg t2]
  by_cases t3 : aI α 3 = 3
  · rw [if_pos t3, t3, show 74 + (3 - 1) = 76 from rfl, fV76, e5, aJ_r hz.1 (by omega) (by decide) (by decide), aC_e ⟨by omega, by omega⟩ ⟨by decide, by decide⟩]
    refine t01 ?_
    rw [Int.tmod_eq_emod_of_nonneg hz.1]
    exact Iff.rfl
  have t4 : aI α 3 = 4 := by omega
  rw [if_neg t3, if_pos t4, t4, show 74 + (4 - 1) = 77 from rfl, fV77, e0, e2, e4, aJ_m ⟨by omega, by omega⟩, aC_e ⟨by omega, by omega⟩ ⟨by decide, by decide⟩, aC_g ⟨by omega, by omega⟩ ⟨by omega, by omega⟩, and01]
  exact t01 ⟨fun q => ⟨q.1, by have := q.2; omega⟩, fun q => ⟨q.1, by have := q.2; omega⟩⟩
theorem aStk {σ : KS} {α : aA} (hok : aOk α) (hl : LT σ α) {c d : Nat} (hc : c < aI α 0) (hd : d < aI α 0) {x y : Int32} {z h : Int} (hh : 0 ≤ h ∧ h ≤ 20) (hz : 0 ≤ z ∧ z ≤ 99) (hk : (if 0 ≤ x - y then x - y else -(x - y)) = iI z) : (if kStick (aFo α) σ c x d y (iI h) = 0 then (0 : Int32) else 1) = b01 (aSt α c d z h) := by
  have hg1 := hok.2.2.2.2.2.2.2.2.2.2.1 c
  have hg2 := hok.2.2.2.2.2.2.2.2.2.2.1 d
  obtain ⟨-, hk1⟩ := hl.2.2.1 c hc
  obtain ⟨-, hk2⟩ := hl.2.2.1 d hd
  have hf := (aFo_f α).2.2.2
  have ht := hok.2.2.2.2.1
  unfold aSt
  by_cases t0 : aI α 4 = 0
  · rw [if_pos t0] at hf
    rw [if_neg (show ¬ aI α 4 = 1 by omega), if_neg (show ¬ aI α 4 = 2 by omega), if_neg (show ¬ aI α 4 = 3 by omega), if_neg (show ¬ aI α 4 = 4 by omega)]
    unfold kStick
    rw [hf]
    rfl
  rw [if_neg t0] at hf
  obtain ⟨e, he⟩ : ∃ e, e = ePut (ePut (eW σ e00 (iI h)) 6 (if 0 ≤ x - y then x - y else -(x - y))) 7 (iI (kI σ 32 c) + iI (kI σ 32 d)) := ⟨_, rfl⟩
  have ek : kStick (aFo α) σ c x d y (iI h) = (fVl (78 + (aI α 4 - 1)) e).toInt32 := by
    unfold kStick
    rw [hf, he]
  have e0 : e 0 = lI h := by
    rw [he]
    show (iI h).toInt64 = _
    exact lI_of ⟨by omega, by omega⟩
  have e6 : e 6 = lI z := by
    rw [he, hk]
    show (iI z).toInt64 = _
    exact lI_of ⟨by omega, by omega⟩
  have e7 : e 7 = lI ((aGr α c : Int) + (aGr α d : Int)) := by
    rw [he]
    show (iI (kI σ 32 c) + iI (kI σ 32 d)).toInt64 = _
    rw [hk1, hk2, iI_add, lI_of ⟨by omega, by omega⟩]
  rw [ek]
  by_cases t1 : aI α 4 = 1
  · rw [if_pos t1, t1, show 78 + (1 - 1) = 78 from rfl, fV78, e6, aC_l ⟨by omega, by omega⟩ ⟨by decide, by decide⟩]
    exact t01 Iff.rfl
  rw [if_neg t1]
  by_cases t2 : aI α 4 = 2
  · rw [if_pos t2, t2, show 78 + (2 - 1) = 79 from rfl, fV79, e6, e0, e7, aC_l ⟨by omega, by omega⟩ ⟨by omega, by omega⟩, aC_g ⟨by omega, by omega⟩ ⟨by decide, by decide⟩, and01]
    exact t01 ⟨fun q => ⟨q.1, by have := q.2; omega⟩, fun q => ⟨q.1, by have := q.2; omega⟩⟩
  rw [if_neg t2]
  by_cases t3 : aI α 4 = 3
  · rw [if_pos t3, t3, show 78 + (3 - 1) = 80 from rfl, fV80, e6, aJ_r hz.1 (by omega) (by decide) (by decide), aC_e ⟨by omega, by omega⟩ ⟨by decide, by decide⟩]
    refine t01 ?_
    rw [Int.tmod_eq_emod_of_nonneg hz.1]
    exact Iff.rfl
  have t4 : aI α 4 = 4 := by omega
  rw [if_neg t3, if_pos t4, t4, show 78 + (4 - 1) = 81 from rfl, fV81, e6, e7, aC_l ⟨by omega, by omega⟩ ⟨by decide, by decide⟩, aC_e ⟨by omega, by omega⟩ ⟨by decide, by decide⟩, or01]
  exact t01 ⟨fun q => q.elim (fun w => Or.inl (by omega)) (fun w => Or.inr w), fun q => q.elim (fun w => Or.inl (by omega)) (fun w => Or.inr w)⟩
theorem max0L {z : Int} (h : iB z) : (if 0 < lI z then lI z else (0 : Int64)).toInt32 = iI (max 0 z) := by
  have hb : lB z := ⟨by have := h.1; omega, by have := h.2; omega⟩
  have i2 : ((0 : Int64) < lI z) ↔ 0 < z := lI_lt (a := 0) ⟨by decide, by decide⟩ hb
  by_cases q : 0 < z
  · rw [if_pos (i2.mpr q), Int.max_eq_right (by omega), l32 h]
  · rw [if_neg (fun w => q (i2.mp w)), Int.max_eq_left (by omega)]; rfl
theorem aBrn {σ : KS} {α : aA} (hok : aOk α) (hl : LT σ α) {q : Nat} (hq : q < aI α 1) (hh : 0 ≤ kI σ 41 q ∧ kI σ 41 q ≤ 20) (hw : 0 ≤ kI σ 3 0 ∧ kI σ 3 0 ≤ 100000) (hfl : kFull σ q ≤ 6) : kBurn (aFo α) σ q = iI (aBu α (kI σ 41 q) q (kFull σ q) (kI σ 3 0)) := by
  have hro := hok.2.2.2.2.2.2.2.2.2.2.2 q
  have hk1 := hl.2.2.2 q hq
  have hf := (aFo_f α).2.1
  have ht := hok.2.2.2.2.2.1
  unfold aBu
  by_cases t0 : aI α 5 = 0
  · rw [if_pos t0] at hf
    rw [if_pos t0]
    unfold kBurn
    rw [hf]
  rw [if_neg t0] at hf
  rw [if_neg t0]
  obtain ⟨e, he⟩ : ∃ e, e = ePut (ePut (eW σ e00 (iI (kI σ 41 q))) 8 (nI (kA σ 25 q))) 9 (nI (kFull σ q)) := ⟨_, rfl⟩
  have ek : kBurn (aFo α) σ q = (if 0 < fVl (82 + (aI α 5 - 1)) e then fVl (82 + (aI α 5 - 1)) e else (0 : Int64)).toInt32 := by
    unfold kBurn
    rw [hf, he]
  have e0 : e 0 = lI (kI σ 41 q) := by
    rw [he]
    show (iI (kI σ 41 q)).toInt64 = _
    exact lI_of ⟨by omega, by omega⟩
  have e1 : e 1 = lI (kI σ 3 0) := by
    rw [he]
    show (iI (kI σ 3 0)).toInt64 = _
    exact lI_of ⟨by omega, by omega⟩
  have e8 : e 8 = lI (aRo α q : Int) := by
    rw [he, hk1]
    show (nI (aRo α q)).toInt64 = _
    exact lI_n _ (by omega)
  have e9 : e 9 = lI (kFull σ q : Int) := by
    rw [he]
    show (nI (kFull σ q)).toInt64 = _
    exact lI_n _ (by omega)
  rw [ek]
  by_cases t1 : aI α 5 = 1
  · have hm : 0 ≤ kI σ 41 q * (aRo α q : Int) ∧ kI σ 41 q * (aRo α q : Int) ≤ 120 := ⟨Int.mul_nonneg hh.1 (by omega), by
      have := Int.mul_le_mul hh.2 (show (aRo α q : Int) ≤ 6 by omega) (by omega) (by omega)
      omega⟩
    rw [if_pos t1, t1, show 82 + (1 - 1) = 82 from rfl, fV82, e0, e8, aJ_m ⟨by omega, by omega⟩, max0L ⟨by omega, by omega⟩, Int.max_eq_right (by omega)]
  rw [if_neg t1]
  by_cases t2 : aI α 5 = 2
  · rw [if_pos t2, t2, show 82 + (2 - 1) = 83 from rfl, fV83, e0, e9, e1, aJ_m ⟨by omega, by omega⟩, aJ_a ⟨by omega, by omega⟩, aJ_r hw.1 (by omega) (by decide) (by decide), aJ_a ⟨by omega, by omega⟩, max0L ⟨by omega, by omega⟩, Int.max_eq_right (by omega), Int.tmod_eq_emod_of_nonneg hw.1]
    congr 1
    omega
  rw [if_neg t2]
  by_cases t3 : aI α 5 = 3
  · rw [if_pos t3, t3, show 82 + (3 - 1) = 84 from rfl, fV84, e0, e8, aJ_m ⟨by omega, by omega⟩, aJ_s ⟨by omega, by omega⟩, max0L ⟨by omega, by omega⟩]
    congr 1
    omega
  have t4 : aI α 5 = 4 := by omega
  rw [if_neg t3, t4, show 82 + (4 - 1) = 85 from rfl, fV85, e0, aC_g ⟨by omega, by omega⟩ ⟨by decide, by decide⟩]
  by_cases h9 : ((9 : Nat) : Int) < kI σ 41 q
  · rw [if_pos h9, show (if (1 : Int64) = 0 then lI ((5 : Nat) : Int) else lI ((40 : Nat) : Int)) = lI ((40 : Nat) : Int) from if_neg (by decide), if_pos (show 9 < kI σ 41 q from h9), max0L ⟨by decide, by decide⟩]
    rfl
  · rw [if_neg h9, show (if (0 : Int64) = 0 then lI ((5 : Nat) : Int) else lI ((40 : Nat) : Int)) = lI ((5 : Nat) : Int) from if_pos rfl, if_neg (show ¬ 9 < kI σ 41 q from h9), max0L ⟨by decide, by decide⟩]
    rfl
