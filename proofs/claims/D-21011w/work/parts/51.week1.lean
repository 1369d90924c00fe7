/-! A WEEK: what it does to the state -/
/-- the told rows apart: count of changes, size, addresses, the array's address and size, contents -/
abbrev KD : Type := Int × Nat × (Nat → Nat) × Nat × Nat × (Nat → Nat → Int)
def kTd (τ : KS) (X : KD) : KS := (fun f k => if f = 16 ∧ k = 0 then X.1 else τ.1 f k, fun f k => if f = 63 ∧ k = 0 then X.2.1 else if f = 12 then X.2.2.1 k else if f = 11 ∧ k = 0 then X.2.2.2.1 else if f = 73 ∧ k = 0 then X.2.2.2.2.1 else τ.2.1 f k, τ.2.2.1, fun f k j => if f = 2 then X.2.2.2.2.2 k j else τ.2.2.2.1 f k j, τ.2.2.2.2)
def kD (σ : KS) : KD := (kI σ 16 0, kA σ 63 0, kA σ 12, kA σ 11 0, kA σ 73 0, kV σ 2)
def kDp (X : KD) (d v : Nat) (f : Nat → Int) : KD := (X.1 + 1, X.2.1 + 1, fun k => if k = X.2.1 then v else X.2.2.1 k, d, (if X.2.2.2.2.1 = 0 then 10 else X.2.2.2.2.1), fun k j => if k = X.2.1 then f j else X.2.2.2.2.2 k j)
theorem kTd_kD (σ : KS) : kTd σ (kD σ) = σ := by
  have e1 : (kTd σ (kD σ)).1 = σ.1 := by
    funext a k; simp only [kTd, kD, kI]; split
    · rename_i h; rw [h.1, h.2]
    · rfl
  have e2 : (kTd σ (kD σ)).2.1 = σ.2.1 := by
    funext a k; simp only [kTd, kD, kA]; (repeat' split) <;> first | rfl | (rename_i h; rw [h.1, h.2]) | (rename_i h; rw [h])
  have e3 : (kTd σ (kD σ)).2.2.2.1 = σ.2.2.2.1 := by
    funext a k j; simp only [kTd, kD, kV]; split
    · rename_i h; rw [h]
    · rfl
  exact Prod.ext e1 (Prod.ext e2 (Prod.ext rfl (Prod.ext e3 rfl)))
theorem kTd_kTd (σ : KS) (X Y : KD) : kTd (kTd σ X) Y = kTd σ Y := by
  have e1 : (kTd (kTd σ X) Y).1 = (kTd σ Y).1 := by
    funext a k; simp only [kTd]; split <;> rfl
  have e2 : (kTd (kTd σ X) Y).2.1 = (kTd σ Y).2.1 := by
    funext a k; simp only [kTd]; (repeat' split) <;> first | rfl | simp_all
  have e3 : (kTd (kTd σ X) Y).2.2.2.1 = (kTd σ Y).2.2.2.1 := by
    funext a k j; simp only [kTd]; split <;> rfl
  exact Prod.ext e1 (Prod.ext e2 (Prod.ext rfl (Prod.ext e3 rfl)))
theorem kTell_kTd (τ : KS) (X : KD) (d v : Nat) (f : Nat → Int) : kTell (kTd τ X) d v f = kTd τ (kDp X d v f) := by
  have e1 : (kTell (kTd τ X) d v f).1 = (kTd τ (kDp X d v f)).1 := by
    funext a k; simp only [kTell, kTd, kDp, kI]; (repeat' split) <;> simp_all
  have e2 : (kTell (kTd τ X) d v f).2.1 = (kTd τ (kDp X d v f)).2.1 := by
    funext a k
    show (if a = 63 ∧ k = 0 then X.2.1 + 1 else if a = 12 ∧ k = X.2.1 then v else if a = 11 ∧ k = 0 then d else if a = 73 ∧ k = 0 then (if X.2.2.2.2.1 = 0 then 10 else X.2.2.2.2.1) else if a = 63 ∧ k = 0 then X.2.1 else if a = 12 then X.2.2.1 k else if a = 11 ∧ k = 0 then X.2.2.2.1 else if a = 73 ∧ k = 0 then X.2.2.2.2.1 else τ.2.1 a k) = (if a = 63 ∧ k = 0 then X.2.1 + 1 else if a = 12 then (if k = X.2.1 then v else X.2.2.1 k) else if a = 11 ∧ k = 0 then d else if a = 73 ∧ k = 0 then (if X.2.2.2.2.1 = 0 then 10 else X.2.2.2.2.1) else τ.2.1 a k)
    by_cases h1 : a = 63 ∧ k = 0
    · simp only [if_pos h1]
    · simp only [if_neg h1]
      by_cases h2 : a = 12
      · subst h2
        have n1 : ¬ ((12 : Nat) = 11 ∧ k = 0) := fun q => absurd q.1 (by decide)
        have n2 : ¬ ((12 : Nat) = 73 ∧ k = 0) := fun q => absurd q.1 (by decide)
        simp only [if_neg n1, if_neg n2, if_true]
        by_cases h3 : k = X.2.1 <;> simp [h3]
      · have n0 : ¬ (a = 12 ∧ k = X.2.1) := fun q => h2 q.1
        simp only [if_neg h2, if_neg n0]
        by_cases h4 : a = 11 ∧ k = 0
        · simp only [if_pos h4]
        · simp only [if_neg h4]
          by_cases h5 : a = 73 ∧ k = 0
          · simp only [if_pos h5]
          · simp only [if_neg h5]
  have e3 : (kTell (kTd τ X) d v f).2.2.2.1 = (kTd τ (kDp X d v f)).2.2.2.1 := by
    funext a k j; simp only [kTell, kTd, kDp, kA]; (repeat' split) <;> simp_all
  exact Prod.ext e1 (Prod.ext e2 (Prod.ext rfl (Prod.ext e3 rfl)))
theorem kIs_kTd (τ : KS) (X : KD) {f : Nat} (hf : f ≠ 16) (k : Nat) (z : Int) : kIs (kTd τ X) f k z = kTd (kIs τ f k z) X := by
  have e1 : (kIs (kTd τ X) f k z).1 = (kTd (kIs τ f k z) X).1 := by
    funext a i; simp only [kTd, kIs]
    by_cases h : a = f ∧ i = k
    · rw [if_pos h, if_neg (fun q => hf (by rw [← h.1, q.1])), if_pos h]
    · rw [if_neg h]; by_cases h2 : a = 16 ∧ i = 0
      · rw [if_pos h2, if_pos h2]
      · rw [if_neg h2, if_neg h2, if_neg h]
  exact Prod.ext e1 rfl
theorem kGo_kTd (τ : KS) (X : KD) (c : Nat) : kGo (kTd τ X) c = kTd (kGo τ c) X := by
  have e : kO (kTd τ X) 0 c 0 = kO τ 0 c 0 := rfl
  have e2 : kI (kTd τ X) 33 c = kI τ 33 c := rfl
  unfold kGo
  rw [e, e2]
  cases kO τ 0 c 0 with
  | none => exact kIs_kTd (kOs τ 0 c 0 none) X (by decide) c (-1)
  | some q => exact kIs_kTd (kOs (kOs τ 1 q (kI τ 33 c).toNat none) 0 c 0 none) X (by decide) c (-1)
section KTD
variable {F : Nat → Option (aEnv → Int64)} {kq : Nat} {hh : Int32} {t k : Nat → Nat → Int32}
theorem kStk_kTd (τ : KS) (X : KD) (c d : Nat) : kStk (kTd τ X) c d = kTd (kStk τ c d) X := by
  have e (i : Nat) : kI (kTd τ X) 35 i = kI τ 35 i := rfl
  unfold kStk
  rw [e, kIs_kTd _ _ (by decide)]
  have e2 (σ : KS) (i : Nat) : kI (kTd σ X) 35 i = kI σ 35 i := rfl
  rw [e2, kIs_kTd _ _ (by decide)]
theorem kFs_kTd (σ τ : KS) (X : KD) (p c : Nat) : kFs F (kTd σ X) kq hh t (kTd τ X) p c = kTd (kFs F σ kq hh t τ p c) X := by
  have e : kNx (kTd σ X) kq p = kNx σ kq p := rfl
  have e2 (d : Nat) (x y : Int32) : kStick F (kTd τ X) c x d y hh = kStick F τ c x d y hh := rfl
  unfold kFs
  rw [e]
  cases kNx σ kq p with
  | none => rfl
  | some d =>
    dsimp only
    rw [e2, kStk_kTd]
    split <;> rfl
theorem kFrN_kTd (σ : KS) (X : KD) : ∀ n, kFrN F (kTd σ X) kq hh t k n = kTd (kFrN F σ kq hh t k n) X := by
  intro n
  induction n with
  | zero => rfl
  | succ n ih =>
    show kFr1 F (kTd σ X) kq hh t k (kFrN F (kTd σ X) kq hh t k n) n = kTd (kFr1 F σ kq hh t k (kFrN F σ kq hh t k n) n) X
    rw [ih]
    have e : kO (kTd σ X) 1 kq n = kO σ 1 kq n := rfl
    unfold kFr1
    rw [e]
    cases kO σ 1 kq n with
    | none => rfl
    | some c =>
      dsimp only
      rw [kFs_kTd, kIs_kTd _ _ (by decide), kIs_kTd _ _ (by decide), kGo_kTd]
theorem kFire_kTd (σ : KS) (X : KD) : kFire F (kTd σ X) kq hh t k = kTd (kFire F σ kq hh t k) X := by
  unfold kFire
  rw [show kA (kTd σ X) 25 kq = kA σ 25 kq from rfl, kFrN_kTd, kIs_kTd _ _ (by decide)]
end KTD
/-- the heat of a firing -/
def kHt (τ : KS) (k : Nat) (gu : Int32) : Int32 := if iI (kI τ 41 k) + gu < 20 then iI (kI τ 41 k) + gu else 20
def kPaid (F : Nat → Option (aEnv → Int64)) (τ : KS) (k : Nat) : KS := kIs τ 7 0 (iI (kI τ 7 0) - kBurn F τ k).toInt
def kBT (F : Nat → Option (aEnv → Int64)) (τ : KS) (k : Nat) (hh : Int32) : Nat → Nat → Int32 := kBt (fun j q => kTemp F τ j hh (nI q)) τ k (kA τ 61 0) 0
def kBK (F : Nat → Option (aEnv → Int64)) (τ : KS) (k : Nat) (hh : Int32) : Nat → Nat → Int32 := kBt (fun j q => kCrack F τ j hh (nI q)) τ k (kA τ 61 0) 0
def kFd (F : Nat → Option (aEnv → Int64)) (τ : KS) (k : Nat) (gu : Int32) : KS := kFire F (kPaid F τ k) k (kHt τ k gu) (kBT F (kPaid F τ k) k (kHt τ k gu)) (kBK F (kPaid F τ k) k (kHt τ k gu))
def kFdS (F : Nat → Option (aEnv → Int64)) (τ : KS) (k : Nat) (gu : Int32) : KS := kIs (kFd F τ k gu) 5 0 (iI (kI (kFd F τ k gu) 5 0) ||| ((1 : Int32) <<< (nI k &&& 31))).toInt
def kW1 (F : Nat → Option (aEnv → Int64)) (gu : Int32) (τ : KS) (k : Nat) : KS := if iI (kI τ 41 k) = -1 ∨ kFull τ k = 0 ∨ iI (kI τ 7 0) < kBurn F τ k then τ else kFdS F τ k gu
def kFl (τ : KS) : Int32 := if iI (kI τ 7 0) + iI (kI τ 8 0) < 9999 then iI (kI τ 7 0) + iI (kI τ 8 0) else 9999
def kW0 (σ : KS) : KS := kIs (kIs σ 5 0 0) 7 0 (kFl σ).toInt
def kWkN (F : Nat → Option (aEnv → Int64)) (gu : Int32) (σ : KS) : Nat → KS
  | 0 => kW0 σ
  | n + 1 => kW1 F gu (kWkN F gu σ n) n
def kWk (F : Nat → Option (aEnv → Int64)) (gu : Int32) (σ : KS) : KS := kIs (kWkN F gu σ (kA σ 62 0)) 3 0 (kI σ 3 0 + 1)
/-- the row that a firing tells -/
def kRw (F : Nat → Option (aEnv → Int64)) (τ : KS) (k : Nat) (gu : Int32) : Nat → Int := kRow (kI τ 3 0) k (kHt τ k gu).toInt (kCk (kPaid F τ k) k (kBK F (kPaid F τ k) k (kHt τ k gu)) (kA τ 25 k))
def kWr (F : Nat → Option (aEnv → Int64)) (gu : Int32) (σ : KS) : Nat → List (Nat → Int)
  | 0 => []
  | n + 1 => kWr F gu σ n ++ (if iI (kI (kWkN F gu σ n) 41 n) = -1 ∨ kFull (kWkN F gu σ n) n = 0 ∨ iI (kI (kWkN F gu σ n) 7 0) < kBurn F (kWkN F gu σ n) n ∨ ¬ iI (kI σ 4 0) = 0 then [] else [kRw F (kWkN F gu σ n) n gu])
section KWK
variable {F : Nat → Option (aEnv → Int64)} {gu : Int32}
theorem kFd_kTd (τ : KS) (X : KD) (k : Nat) : kFd F (kTd τ X) k gu = kTd (kFd F τ k gu) X := by
  have e : kPaid F (kTd τ X) k = kTd (kPaid F τ k) X := kIs_kTd τ X (by decide) _ _
  have e2 : kHt (kTd τ X) k gu = kHt τ k gu := rfl
  have e3 (hh : Int32) : kBT F (kTd (kPaid F τ k) X) k hh = kBT F (kPaid F τ k) k hh := rfl
  have e4 (hh : Int32) : kBK F (kTd (kPaid F τ k) X) k hh = kBK F (kPaid F τ k) k hh := rfl
  unfold kFd
  rw [e, e2, e3, e4, kFire_kTd]
theorem kFdS_kTd (τ : KS) (X : KD) (k : Nat) : kFdS F (kTd τ X) k gu = kTd (kFdS F τ k gu) X := by
  unfold kFdS
  rw [kFd_kTd]
  exact kIs_kTd _ _ (by decide) _ _
theorem kW1_kTd (τ : KS) (X : KD) (k : Nat) : kW1 F gu (kTd τ X) k = kTd (kW1 F gu τ k) X := by
  have e : (iI (kI (kTd τ X) 41 k) = -1 ∨ kFull (kTd τ X) k = 0 ∨ iI (kI (kTd τ X) 7 0) < kBurn F (kTd τ X) k) = (iI (kI τ 41 k) = -1 ∨ kFull τ k = 0 ∨ iI (kI τ 7 0) < kBurn F τ k) := rfl
  unfold kW1
  by_cases h : iI (kI τ 41 k) = -1 ∨ kFull τ k = 0 ∨ iI (kI τ 7 0) < kBurn F τ k
  · rw [if_pos h]; exact if_pos (by rw [e]; exact h)
  · rw [if_neg h, ← kFdS_kTd]; exact if_neg (by rw [e]; exact h)
theorem kW0_kTd (τ : KS) (X : KD) : kW0 (kTd τ X) = kTd (kW0 τ) X := by
  unfold kW0
  rw [show kFl (kTd τ X) = kFl τ from rfl, kIs_kTd _ _ (by decide), kIs_kTd _ _ (by decide)]
theorem kWkN_kTd (τ : KS) (X : KD) : ∀ n, kWkN F gu (kTd τ X) n = kTd (kWkN F gu τ n) X := by
  intro n
  induction n with
  | zero => exact kW0_kTd τ X
  | succ n ih =>
    show kW1 F gu (kWkN F gu (kTd τ X) n) n = kTd (kW1 F gu (kWkN F gu τ n) n) X
    rw [ih, kW1_kTd]
theorem kWk_kTd (τ : KS) (X : KD) : kWk F gu (kTd τ X) = kTd (kWk F gu τ) X := by
  unfold kWk
  rw [kWkN_kTd]
  exact kIs_kTd _ _ (by decide) _ _
theorem kCk_kTd (κ : KS) (X : KD) (k : Nat) (b : Nat → Nat → Int32) : ∀ n, kCk (kTd κ X) k b n = kCk κ k b n := by
  intro n
  induction n with
  | zero => rfl
  | succ n ih => unfold kCk; rw [ih]; rfl
theorem kRw_kTd (τ : KS) (X : KD) (k : Nat) : kRw F (kTd τ X) k gu = kRw F τ k gu := by
  unfold kRw
  rw [show kPaid F (kTd τ X) k = kTd (kPaid F τ k) X from kIs_kTd _ _ (by decide) _ _, kCk_kTd]
  rfl
theorem kWr_kTd (τ : KS) (X : KD) : ∀ n, kWr F gu (kTd τ X) n = kWr F gu τ n := by
  intro n
  induction n with
  | zero => rfl
  | succ n ih =>
    unfold kWr
    rw [ih, kWkN_kTd, kRw_kTd]
    have e : (iI (kI (kTd (kWkN F gu τ n) X) 41 n) = -1 ∨ kFull (kTd (kWkN F gu τ n) X) n = 0 ∨ iI (kI (kTd (kWkN F gu τ n) X) 7 0) < kBurn F (kTd (kWkN F gu τ n) X) n ∨ ¬ iI (kI (kTd τ X) 4 0) = 0) = (iI (kI (kWkN F gu τ n) 41 n) = -1 ∨ kFull (kWkN F gu τ n) n = 0 ∨ iI (kI (kWkN F gu τ n) 7 0) < kBurn F (kWkN F gu τ n) n ∨ ¬ iI (kI τ 4 0) = 0) := rfl
    by_cases h : iI (kI (kWkN F gu τ n) 41 n) = -1 ∨ kFull (kWkN F gu τ n) n = 0 ∨ iI (kI (kWkN F gu τ n) 7 0) < kBurn F (kWkN F gu τ n) n ∨ ¬ iI (kI τ 4 0) = 0
    · rw [if_pos h, if_pos (by rw [e]; exact h)]
    · rw [if_neg h, if_neg (by rw [e]; exact h)]
theorem kA_kFd (τ : KS) (k : Nat) : kA (kFd F τ k gu) = kA τ := by
  unfold kFd kFire
  rw [kA_kIs, kA_kFrN]
  rfl
theorem kA_kFdS (τ : KS) (k : Nat) : kA (kFdS F τ k gu) = kA τ := by
  unfold kFdS
  rw [kA_kIs, kA_kFd]
theorem kFd_V {τ : KS} (h : KV τ) (k : Nat) : KV (kFd F τ k gu) := by
  unfold kFd kFire
  exact KV_kIs (kFrN_V (KV_kIs h (by decide) _ _) _) (by decide) _ _
theorem kFdS_V {τ : KS} (h : KV τ) (k : Nat) : KV (kFdS F τ k gu) := KV_kIs (kFd_V h k) (by decide) _ _
theorem kO2_kFd (τ : KS) (k j : Nat) : kO (kFd F τ k gu) 2 j = kO τ 2 j := by
  unfold kFd kFire
  rw [kO_kIs, kO2_kFrN]
  rfl
theorem kA_kWkN (σ : KS) : ∀ n, kA (kWkN F gu σ n) = kA σ := by
  intro n
  induction n with
  | zero => rfl
  | succ n ih =>
    show kA (kW1 F gu (kWkN F gu σ n) n) = _
    unfold kW1
    split
    · exact ih
    · rw [kA_kFdS, ih]
theorem kWkN_V {σ : KS} (h : KV σ) : ∀ n, KV (kWkN F gu σ n) := by
  intro n
  induction n with
  | zero => exact KV_kIs (KV_kIs h (by decide) _ _) (by decide) _ _
  | succ n ih =>
    show KV (kW1 F gu (kWkN F gu σ n) n)
    unfold kW1
    split
    · exact ih
    · exact kFdS_V ih n
theorem kO2_kWkN (σ : KS) : ∀ n j, kO (kWkN F gu σ n) 2 j = kO σ 2 j := by
  intro n
  induction n with
  | zero => intro j; rfl
  | succ n ih =>
    intro j
    show kO (kW1 F gu (kWkN F gu σ n) n) 2 j = _
    unfold kW1
    split
    · exact ih j
    · unfold kFdS; rw [kO_kIs, kO2_kFd, ih]
theorem kI_kGo (τ : KS) (c : Nat) {f : Nat} (hf : f ≠ 33) (i : Nat) : kI (kGo τ c) f i = kI τ f i := by
  unfold kGo
  split <;> simp [kI_kIs, kI_kOs, hf]
theorem kI_kFs {σ : KS} {kq : Nat} {hh : Int32} {t : Nat → Nat → Int32} (τ : KS) (p c : Nat) {f : Nat} (hf : f ≠ 35) (i : Nat) : kI (kFs F σ kq hh t τ p c) f i = kI τ f i := by
  unfold kFs
  split
  · rfl
  · split
    · rfl
    · unfold kStk; rw [kI_kIs, if_neg (fun q => hf q.1), kI_kIs, if_neg (fun q => hf q.1)]
theorem kI_kFrN {σ : KS} {kq : Nat} {hh : Int32} {t k : Nat → Nat → Int32} {f : Nat} (hf : f < 33 ∨ 36 < f) (i : Nat) : ∀ n, kI (kFrN F σ kq hh t k n) f i = kI σ f i := by
  intro n
  induction n with
  | zero => rfl
  | succ n ih =>
    show kI (kFr1 F σ kq hh t k (kFrN F σ kq hh t k n) n) f i = _
    unfold kFr1
    split
    · exact ih
    · rw [kI_kGo _ _ (by omega), kI_kIs, if_neg (fun q => by omega), kI_kIs, if_neg (fun q => by omega), kI_kFs _ _ _ (by omega), ih]
theorem kI_kFd (τ : KS) (k : Nat) {f : Nat} (hf : f < 33 ∨ 36 < f) (h7 : f ≠ 7) (h41 : f ≠ 41) (i : Nat) : kI (kFd F τ k gu) f i = kI τ f i := by
  unfold kFd kFire kPaid
  rw [kI_kIs, if_neg (fun q => h41 q.1), kI_kFrN hf, kI_kIs, if_neg (fun q => h7 q.1)]
theorem kI_kWkN (σ : KS) {f : Nat} (hf : f < 33 ∨ 36 < f) (h7 : f ≠ 7) (h41 : f ≠ 41) (h5 : f ≠ 5) (i : Nat) : ∀ n, kI (kWkN F gu σ n) f i = kI σ f i := by
  intro n
  induction n with
  | zero => show kI (kW0 σ) f i = _; unfold kW0; rw [kI_kIs, if_neg (fun q => h7 q.1), kI_kIs, if_neg (fun q => h5 q.1)]
  | succ n ih =>
    show kI (kW1 F gu (kWkN F gu σ n) n) f i = _
    unfold kW1
    split
    · exact ih
    · unfold kFdS; rw [kI_kIs, if_neg (fun q => h5 q.1), kI_kFd _ _ hf h7 h41, ih]
end KWK
/-- the told rows X are those of σ and R behind them -/
def kXr (σ : KS) (X : KD) (R : List (Nat → Int)) (d0 : Nat) : Prop := X.2.1 = kA σ 63 0 + R.length ∧ (∀ i, i < kA σ 63 0 → X.2.2.1 i = kA σ 12 i ∧ X.2.2.2.2.2 i = kV σ 2 i) ∧ (∀ i r, R[i]? = some r → X.2.2.2.2.2 (kA σ 63 0 + i) = r) ∧ (X.2.2.2.2.1 = 0 ∧ X.2.1 = 0 ∧ X.2.2.2.1 = d0 ∨ X.2.2.2.2.1 = 10 ∧ X.2.1 ≤ 10) ∧ (R = [] → X = kD σ)
/-- the told list is in order -/
def KTc (σ : KS) (d0 : Nat) : Prop := kA σ 73 0 = 0 ∧ kA σ 63 0 = 0 ∧ kA σ 11 0 = d0 ∨ kA σ 73 0 = 10 ∧ kA σ 63 0 ≤ 10
theorem kXr_0 {σ : KS} {d0 : Nat} (h : KTc σ d0) : kXr σ (kD σ) [] d0 := ⟨rfl, fun i _ => ⟨rfl, rfl⟩, (fun i r q => by cases q), h, fun _ => rfl⟩
theorem kXr_s {σ : KS} {X : KD} {R : List (Nat → Int)} {d0 : Nat} (h : kXr σ X R d0) (h10 : X.2.1 < 10) (d v : Nat) (f : Nat → Int) : kXr σ (kDp X d v f) (R ++ [f]) d0 := by
  obtain ⟨h1, h2, h3, h4, h5⟩ := h
  refine ⟨?_, fun i hi => ?_, fun i r hr => ?_, Or.inr ⟨?_, ?_⟩, fun q => ?_⟩
  · show X.2.1 + 1 = _; rw [List.length_append, h1]; rfl
  · refine ⟨?_, ?_⟩
    · show (if i = X.2.1 then v else X.2.2.1 i) = _
      rw [if_neg (by omega)]; exact (h2 i hi).1
    · funext j
      show (if i = X.2.1 then f j else X.2.2.2.2.2 i j) = _
      rw [if_neg (by omega), (h2 i hi).2]
  · funext j
    show (if kA σ 63 0 + i = X.2.1 then f j else X.2.2.2.2.2 (kA σ 63 0 + i) j) = _
    by_cases e : i < R.length
    · rw [if_neg (by omega)]
      rw [List.getElem?_append_left e] at hr
      rw [h3 i r hr]
    · rw [List.getElem?_append_right (by omega)] at hr
      have e2 : i - R.length = 0 := by
        cases hn : i - R.length with
        | zero => rfl
        | succ m => rw [hn] at hr; cases hr
      rw [e2] at hr
      cases hr
      rw [if_pos (by omega)]
  · show (if X.2.2.2.2.1 = 0 then 10 else X.2.2.2.2.1) = 10
    rcases h4 with q | q
    · rw [if_pos q.1]
    · rw [if_neg (by omega)]; exact q.1
  · show X.2.1 + 1 ≤ 10; omega
  · cases R <;> cases q
theorem kTd_V {τ : KS} {X : KD} (h : KV τ) (h1 : X.2.1 ≤ X.2.2.2.2.1) (h2 : X.2.2.2.2.1 < 1048576) : KV (kTd τ X) := by
  obtain ⟨⟨a, b, c, d, e, f⟩, k⟩ := h
  refine ⟨⟨a, b, fun s hs1 hs2 => ?_, d, e, f⟩, k⟩
  rcases (by omega : s = 61 ∨ s = 62 ∨ s = 63 ∨ s = 64 ∨ s = 65) with q | q | q | q | q
  · subst q; exact c 61 (by decide) (by decide)
  · subst q; exact c 62 (by decide) (by decide)
  · subst q; exact ⟨h1, h2⟩
  · subst q; exact c 64 (by decide) (by decide)
  · subst q; exact c 65 (by decide) (by decide)
/-- the week's invariant behind its first kilns -/
def kWI (F : Nat → Option (aEnv → Int64)) (gu : Int32) (σ : KS) (d0 k : Nat) (ρ : KS) : Prop := ∃ X, ρ = kTd (kWkN F gu σ k) X ∧ kXr σ X (kWr F gu σ k) d0
section KWI
variable {F : Nat → Option (aEnv → Int64)} {gu : Int32} {σ ρ : KS} {d0 k : Nat} {gF : xG}
theorem kWr_len : ∀ n, (kWr F gu σ n).length ≤ n := by
  intro n
  induction n with
  | zero => exact Nat.le_refl 0
  | succ n ih =>
    unfold kWr
    rw [List.length_append]
    split
    · simp; omega
    · simp; omega
theorem kWI.A (h : kWI F gu σ d0 k ρ) {f : Nat} (i : Nat) (hf : kA (kTd σ (kD σ)) f i = kA σ f i) (h1 : f ≠ 63) (h2 : f ≠ 12) (h3 : f ≠ 11) (h4 : f ≠ 73) : kA ρ f i = kA σ f i := by
  obtain ⟨X, rfl, -⟩ := h
  show (if f = 63 ∧ i = 0 then X.2.1 else if f = 12 then X.2.2.1 i else if f = 11 ∧ i = 0 then X.2.2.2.1 else if f = 73 ∧ i = 0 then X.2.2.2.2.1 else kA (kWkN F gu σ k) f i) = _
  rw [if_neg (fun q => h1 q.1), if_neg h2, if_neg (fun q => h3 q.1), if_neg (fun q => h4 q.1), kA_kWkN]
theorem kWI.cap (h : kWI F gu σ d0 k ρ) : kA ρ 73 0 = 0 ∧ kA ρ 63 0 = 0 ∧ kA ρ 11 0 = d0 ∨ kA ρ 73 0 = 10 ∧ kA ρ 63 0 ≤ 10 := by
  obtain ⟨X, rfl, hx⟩ := h
  exact hx.2.2.2.1
theorem kWI.V (h : kWI F gu σ d0 k ρ) (hv : KV σ) : KV ρ := by
  obtain ⟨X, rfl, hx⟩ := h
  refine kTd_V (kWkN_V hv k) ?_ ?_
  · rcases hx.2.2.2.1 with q | q <;> omega
  · rcases hx.2.2.2.1 with q | q <;> omega
theorem kWI.len (h : kWI F gu σ d0 k ρ) : kA ρ 63 0 = kA σ 63 0 + (kWr F gu σ k).length := by
  obtain ⟨X, rfl, hx⟩ := h
  exact hx.1
theorem kWI.R (h : kWI F gu σ d0 k ρ) (hr : KR σ) : KR ρ := by
  have e := h.len
  refine ⟨(h.A 0 rfl (by decide) (by decide) (by decide) (by decide)).trans hr.1, fun i hi => ?_⟩
  rw [h.A 0 rfl (by decide) (by decide) (by decide) (by decide)] at hi
  rw [h.A i rfl (by decide) (by decide) (by decide) (by decide)]
  have := hr.2 i hi
  omega
theorem kWI.Fm (h : kWI F gu σ d0 k ρ) (hF : kF gF σ F) : kF gF ρ F := by
  obtain ⟨X, rfl, hx⟩ := h
  exact kF_on hF (fun j => kO2_kWkN σ k j)
theorem kWI.I (h : kWI F gu σ d0 k ρ) {f : Nat} (hf : f = 3 ∨ f = 4) (i : Nat) : kI ρ f i = kI σ f i := by
  obtain ⟨X, rfl, hx⟩ := h
  show (if f = 16 ∧ i = 0 then X.1 else kI (kWkN F gu σ k) f i) = _
  rw [if_neg (by omega), kI_kWkN σ (by omega) (by omega) (by omega) (by omega)]
theorem kWI_0 (hT : KTc σ d0) : kWI F gu σ d0 0 (kW0 σ) := ⟨kD σ, (by
  show kW0 σ = kTd (kW0 σ) (kD (kW0 σ))
  rw [kTd_kD]), kXr_0 hT⟩
theorem kWI_n (h : kWI F gu σ d0 k ρ) (hc : iI (kI ρ 41 k) = -1 ∨ kFull ρ k = 0 ∨ iI (kI ρ 7 0) < kBurn F ρ k) : kWI F gu σ d0 (k + 1) ρ := by
  obtain ⟨X, rfl, hx⟩ := h
  replace hc : iI (kI (kWkN F gu σ k) 41 k) = -1 ∨ kFull (kWkN F gu σ k) k = 0 ∨ iI (kI (kWkN F gu σ k) 7 0) < kBurn F (kWkN F gu σ k) k := hc
  refine ⟨X, ?_, ?_⟩
  · show _ = kTd (kW1 F gu (kWkN F gu σ k) k) X
    unfold kW1
    rw [if_pos hc]
  · unfold kWr
    rw [if_pos (by rcases hc with q | q | q; exact Or.inl q; exact Or.inr (Or.inl q); exact Or.inr (Or.inr (Or.inl q))), List.append_nil]
    exact hx
theorem kWI_t (h : kWI F gu σ d0 k ρ) (hc : ¬ (iI (kI ρ 41 k) = -1 ∨ kFull ρ k = 0 ∨ iI (kI ρ 7 0) < kBurn F ρ k)) (ht : ¬ iI (kI ρ 4 0) = 0) : kWI F gu σ d0 (k + 1) (kFdS F ρ k gu) := by
  rw [h.I (Or.inr rfl) 0] at ht
  obtain ⟨X, rfl, hx⟩ := h
  replace hc : ¬ (iI (kI (kWkN F gu σ k) 41 k) = -1 ∨ kFull (kWkN F gu σ k) k = 0 ∨ iI (kI (kWkN F gu σ k) 7 0) < kBurn F (kWkN F gu σ k) k) := hc
  refine ⟨X, ?_, ?_⟩
  · show _ = kTd (kW1 F gu (kWkN F gu σ k) k) X
    unfold kW1
    rw [if_neg hc, kFdS_kTd]
  · unfold kWr
    rw [if_pos (Or.inr (Or.inr (Or.inr ht))), List.append_nil]
    exact hx
theorem kWI_f (h : kWI F gu σ d0 k ρ) (hc : ¬ (iI (kI ρ 41 k) = -1 ∨ kFull ρ k = 0 ∨ iI (kI ρ 7 0) < kBurn F ρ k)) (ht : iI (kI ρ 4 0) = 0) (h10 : kA ρ 63 0 < 10) (d v : Nat) : kWI F gu σ d0 (k + 1) (kTell (kFdS F ρ k gu) d v (kRw F ρ k gu)) := by
  rw [h.I (Or.inr rfl) 0] at ht
  obtain ⟨X, rfl, hx⟩ := h
  replace hc : ¬ (iI (kI (kWkN F gu σ k) 41 k) = -1 ∨ kFull (kWkN F gu σ k) k = 0 ∨ iI (kI (kWkN F gu σ k) 7 0) < kBurn F (kWkN F gu σ k) k) := hc
  refine ⟨kDp X d v (kRw F (kTd (kWkN F gu σ k) X) k gu), ?_, ?_⟩
  · show _ = kTd (kW1 F gu (kWkN F gu σ k) k) _
    unfold kW1
    rw [if_neg hc, kFdS_kTd, kTell_kTd]
  · unfold kWr
    rw [if_neg (fun q => by rcases q with q | q | q | q; exact hc (Or.inl q); exact hc (Or.inr (Or.inl q)); exact hc (Or.inr (Or.inr q)); exact q ht)]
    rw [kRw_kTd]
    exact kXr_s hx h10 _ _ _
end KWI
theorem kBK_01 {gF : xG} {τ : KS} {F : Nat → Option (aEnv → Int64)} (h : kF gF τ F) (k : Nat) (hh : Int32) (c p : Nat) : kBK F τ k hh c p = 0 ∨ kBK F τ k hh c p = 1 := by
  unfold kBK kBt
  split
  · exact kCrack_01 h _ _ _
  · exact Or.inl rfl
