/-! THE SAME FOR A WEEK: two states whose town is the same go the same way -/
def kRl (f : Nat) : Bool := Nat.beq f 3 || Nat.beq f 7 || Nat.beq f 8 || Nat.beq f 9 || (Nat.ble 31 f && Nat.ble f 36) || Nat.beq f 41
def kEy (σ τ : KS) : Prop := (∀ f k, kRl f = true → kI σ f k = kI τ f k) ∧ kO σ = kO τ ∧ kA σ 25 = kA τ 25 ∧ kA σ 61 0 = kA τ 61 0 ∧ kA σ 62 0 = kA τ 62 0
def kEw (σ τ : KS) : Prop := kEy σ τ ∧ kI σ 5 0 = kI τ 5 0
section KEW
variable {σ τ : KS} {F : Nat → Option (aEnv → Int64)} {gu : Int32}
theorem kEy.refl (σ : KS) : kEy σ σ := ⟨fun _ _ _ => rfl, rfl, rfl, rfl, rfl⟩
theorem kEy.symm (h : kEy σ τ) : kEy τ σ := ⟨fun f k q => (h.1 f k q).symm, h.2.1.symm, h.2.2.1.symm, h.2.2.2.1.symm, h.2.2.2.2.symm⟩
theorem kEy.trans {υ : KS} (h : kEy σ τ) (h2 : kEy τ υ) : kEy σ υ := ⟨fun f k q => (h.1 f k q).trans (h2.1 f k q), h.2.1.trans h2.2.1, h.2.2.1.trans h2.2.2.1, h.2.2.2.1.trans h2.2.2.2.1, h.2.2.2.2.trans h2.2.2.2.2⟩
theorem kEy.is (h : kEy σ τ) (f k : Nat) (z : Int) : kEy (kIs σ f k z) (kIs τ f k z) := ⟨fun f' k' q => by rw [kI_kIs, kI_kIs, h.1 f' k' q], h.2.1, h.2.2.1, h.2.2.2.1, h.2.2.2.2⟩
theorem kEw.is (h : kEw σ τ) (f k : Nat) (z : Int) : kEw (kIs σ f k z) (kIs τ f k z) := ⟨h.1.is f k z, by rw [kI_kIs, kI_kIs, h.2]⟩
theorem kEw.os (h : kEw σ τ) (f k j : Nat) (z : Option Nat) : kEw (kOs σ f k j z) (kOs τ f k j z) := ⟨⟨h.1.1, by funext a b c; rw [kO_kOs, kO_kOs, h.1.2.1], h.1.2.2⟩, h.2⟩
theorem kEy.temp (h : kEy σ τ) (c : Nat) (x y : Int32) : kTemp F σ c x y = kTemp F τ c x y := by
  have e : ∀ e0 : aEnv, eC σ e0 c x y = eC τ e0 c x y := fun e0 => by
    unfold eC eW
    rw [h.1 3 0 rfl, h.1 31 c rfl, h.1 32 c rfl]
  unfold kTemp
  rw [e]
theorem kEy.crack (h : kEy σ τ) (c : Nat) (x y : Int32) : kCrack F σ c x y = kCrack F τ c x y := by
  have e : ∀ e0 : aEnv, eC σ e0 c x y = eC τ e0 c x y := fun e0 => by
    unfold eC eW
    rw [h.1 3 0 rfl, h.1 31 c rfl, h.1 32 c rfl]
  unfold kCrack
  rw [e, h.temp]
theorem kEy.stick (h : kEy σ τ) (c : Nat) (x : Int32) (d : Nat) (y z : Int32) : kStick F σ c x d y z = kStick F τ c x d y z := by
  have e : ∀ e0 : aEnv, eW σ e0 z = eW τ e0 z := fun e0 => by
    unfold eW
    rw [h.1 3 0 rfl]
  unfold kStick
  rw [e, h.1 32 c rfl, h.1 32 d rfl]
theorem kEy.full (h : kEy σ τ) (k : Nat) : kFull σ k = kFull τ k := by
  unfold kFull
  rw [h.2.1, h.2.2.1]
theorem kEy.burn (h : kEy σ τ) (k : Nat) : kBurn F σ k = kBurn F τ k := by
  unfold kBurn
  rw [h.1 41 k rfl, h.2.2.1, h.full]
  have e : ∀ (e0 : aEnv) (z : Int32), eW σ e0 z = eW τ e0 z := fun e0 z => by
    unfold eW
    rw [h.1 3 0 rfl]
  rw [e]
theorem kEy.nx (h : kEy σ τ) (kq p : Nat) : kNx σ kq p = kNx τ kq p := by
  unfold kNx
  rw [h.2.1, h.2.2.1]
theorem kEw.go (h : kEw σ τ) (c : Nat) : kEw (kGo σ c) (kGo τ c) := by
  unfold kGo
  rw [h.1.2.1, h.1.1 33 c rfl]
  cases kO τ 0 c 0 with
  | none => exact (h.os 0 c 0 none).is 33 c (-1)
  | some q => exact ((h.os 1 q _ none).os 0 c 0 none).is 33 c (-1)
theorem kEw.stk (h : kEw σ τ) (c d : Nat) : kEw (kStk σ c d) (kStk τ c d) := by
  unfold kStk
  rw [kI_kIs, kI_kIs, h.1.1 35 c rfl, h.1.1 35 d rfl]
  exact (h.is 35 c _).is 35 d _
theorem kFs_E {σ' τ' : KS} (h : kEy σ τ) (h2 : kEw σ' τ') {kq : Nat} {hh : Int32} {t : Nat → Nat → Int32} (p c : Nat) : kEw (kFs F σ kq hh t σ' p c) (kFs F τ kq hh t τ' p c) := by
  unfold kFs
  rw [h.nx]
  cases kNx τ kq p with
  | none => exact h2
  | some d =>
    dsimp only
    rw [h2.1.stick]
    split
    · exact h2
    · exact h2.stk c d
theorem kFrN_E (h : kEw σ τ) {kq : Nat} {hh : Int32} {t k : Nat → Nat → Int32} : ∀ n, kEw (kFrN F σ kq hh t k n) (kFrN F τ kq hh t k n) := by
  intro n
  induction n with
  | zero => exact h
  | succ n ih =>
    cases hc : kO τ 1 kq n with
    | none => rw [kFrN_n (by rw [h.1.2.1]; exact hc), kFrN_n hc]; exact ih
    | some c =>
      rw [kFrN_s (by rw [h.1.2.1]; exact hc), kFrN_s hc]
      exact (((kFs_E h.1 ih n c).is 34 c _).is 36 c _).go c
theorem kEy.bt (h : kEy σ τ) (k : Nat) (hh : Int32) : kBT F σ k hh = kBT F τ k hh := by
  funext c p
  unfold kBT kBt
  rw [h.2.1, h.2.2.1, h.2.2.2.1]
  dsimp only
  rw [h.temp]
theorem kEy.bk (h : kEy σ τ) (k : Nat) (hh : Int32) : kBK F σ k hh = kBK F τ k hh := by
  funext c p
  unfold kBK kBt
  rw [h.2.1, h.2.2.1, h.2.2.2.1]
  dsimp only
  rw [h.crack]
theorem kEy.ht (h : kEy σ τ) (k : Nat) : kHt σ k gu = kHt τ k gu := by
  unfold kHt
  rw [h.1 41 k rfl]
theorem kEw.paid (h : kEw σ τ) (k : Nat) : kEw (kPaid F σ k) (kPaid F τ k) := by
  unfold kPaid
  rw [h.1.1 7 0 rfl, h.1.burn]
  exact h.is 7 0 _
theorem kEw.fd (h : kEw σ τ) (k : Nat) : kEw (kFd F σ k gu) (kFd F τ k gu) := by
  have h2 := h.paid (F := F) k
  unfold kFd kFire
  rw [h.1.ht, h2.1.bt, h2.1.bk, h2.1.2.2.1]
  exact (kFrN_E h2 _).is 41 k (-1)
theorem kEw.fds (h : kEw σ τ) (k : Nat) : kEw (kFdS F σ k gu) (kFdS F τ k gu) := by
  have h2 := h.fd (F := F) (gu := gu) k
  unfold kFdS
  rw [h2.2]
  exact h2.is 5 0 _
theorem kEy.cond (h : kEy σ τ) (k : Nat) : (iI (kI σ 41 k) = -1 ∨ kFull σ k = 0 ∨ iI (kI σ 7 0) < kBurn F σ k) = (iI (kI τ 41 k) = -1 ∨ kFull τ k = 0 ∨ iI (kI τ 7 0) < kBurn F τ k) := by rw [h.1 41 k rfl, h.1 7 0 rfl, h.full, h.burn]
theorem kEw.w1 (h : kEw σ τ) (k : Nat) : kEw (kW1 F gu σ k) (kW1 F gu τ k) := by
  unfold kW1
  by_cases hc : iI (kI τ 41 k) = -1 ∨ kFull τ k = 0 ∨ iI (kI τ 7 0) < kBurn F τ k
  · rw [if_pos hc, if_pos (by rw [h.1.cond]; exact hc)]; exact h
  · rw [if_neg hc, if_neg (by rw [h.1.cond]; exact hc)]; exact h.fds k
theorem kW0_E (h : kEy σ τ) : kEw (kW0 σ) (kW0 τ) := by
  have e : kFl σ = kFl τ := by unfold kFl; rw [h.1 7 0 rfl, h.1 8 0 rfl]
  unfold kW0
  rw [e]
  refine ⟨(h.is 5 0 0).is 7 0 _, ?_⟩
  simp [kI_kIs]
theorem kWkN_E (h : kEy σ τ) : ∀ n, kEw (kWkN F gu σ n) (kWkN F gu τ n) := by
  intro n
  induction n with
  | zero => exact kW0_E h
  | succ n ih => exact ih.w1 n
theorem kWk_E (h : kEy σ τ) : kEw (kWk F gu σ) (kWk F gu τ) := by
  unfold kWk
  rw [h.2.2.2.2, h.1 3 0 rfl]
  exact (kWkN_E h _).is 3 0 _
theorem kCk_E (h : kEy σ τ) (kq : Nat) (b : Nat → Nat → Int32) : ∀ n, kCk σ kq b n = kCk τ kq b n := by
  intro n
  induction n with
  | zero => rfl
  | succ n ih => unfold kCk; rw [ih, h.2.1]
theorem kRw_E (h : kEw σ τ) (k : Nat) : kRw F σ k gu = kRw F τ k gu := by
  have h2 := h.paid (F := F) k
  unfold kRw
  rw [kCk_E h2.1, h2.1.bk, h.1.ht, h.1.1 3 0 rfl, h.1.2.2.1]
theorem kWr_E (h : kEy σ τ) (h4 : kI σ 4 0 = kI τ 4 0) : ∀ n, kWr F gu σ n = kWr F gu τ n := by
  intro n
  induction n with
  | zero => rfl
  | succ n ih =>
    have h2 := kWkN_E (F := F) (gu := gu) h n
    unfold kWr
    rw [ih, kRw_E h2, h2.1.1 41 n rfl, h2.1.1 7 0 rfl, h2.1.full, h2.1.burn, h4]
theorem kGs_E (h : kEy σ τ) : ∀ n, kEy (kGs F σ n) (kGs F τ n) ∧ (0 < n → kI (kGs F σ n) 5 0 = kI (kGs F τ n) 5 0) := by
  intro n
  induction n with
  | zero => exact ⟨h, fun q => absurd q (by decide)⟩
  | succ n ih =>
    have := kWk_E (F := F) (gu := 0) ih.1
    exact ⟨this.1, fun _ => this.2⟩
theorem kRs_E (h : kEy σ τ) (h4 : kI σ 4 0 = kI τ 4 0) : ∀ n, kRs F σ n = kRs F τ n := by
  intro n
  induction n with
  | zero => rfl
  | succ n ih =>
    have h2 := (kGs_E (F := F) h n).1
    unfold kRs
    rw [ih, kWr_E h2 (by rw [kI4_kGs, kI4_kGs, h4]), h2.2.2.2.2]
theorem kSm_E (h : kEy σ τ) : ∀ n, kSm F σ n = kSm F τ n := by
  intro n
  induction n with
  | zero => rfl
  | succ n ih =>
    unfold kSm
    rw [ih, (kGs_E (F := F) h (n + 1)).2 (by omega)]
theorem kEy_is (σ : KS) {f : Nat} (hf : kRl f = false) (k : Nat) (z : Int) : kEy (kIs σ f k z) σ := ⟨fun f' k' q => by rw [kI_kIs, if_neg (fun e => by rw [e.1, hf] at q; cases q)], rfl, rfl, rfl, rfl⟩
theorem kEy_td (σ : KS) (X : KD) : kEy (kTd σ X) σ := ⟨fun f k q => by
  show (if f = 16 ∧ k = 0 then X.1 else kI σ f k) = _
  rw [if_neg (fun e => by rw [e.1] at q; cases q)], rfl, rfl, rfl, rfl⟩
end KEW
