/-! A WEEK keeps the order of things: plain laws -/
section KPS
variable {σ τ : KS} {F : Nat → Option (aEnv → Int64)} {gu : Int32}
theorem KPl_is (h : KPl σ) {f : Nat} (hf : f ≠ 33) (k : Nat) (z : Int) : KPl (kIs σ f k z) := by
  have e : ∀ c, kI (kIs σ f k z) 33 c = kI σ 33 c := fun c => by rw [kI_kIs, if_neg (fun q => hf q.1.symm)]
  refine ⟨fun q p c => ?_, fun c q hc hq => ?_, fun c hc hq => ?_⟩
  · rw [e]; exact h.1 q p c
  · rw [e]; exact h.2.1 c q hc hq
  · rw [e]; exact h.2.2 c hc hq
theorem KPl_go (h : KPl σ) {c : Nat} (hc : c < kA σ 61 0) : KPl (kGo σ c) := by
  have ea := kA_kGo σ c
  have hO : ∀ k, kO (kGo σ c) 0 k 0 = if k = c then none else kO σ 0 k 0 := by
    intro k; unfold kGo; split <;> simp [kO_kIs, kO_kOs]
  have hI : ∀ k, kI (kGo σ c) 33 k = if k = c then -1 else kI σ 33 k := by
    intro k; unfold kGo; split <;> simp [kI_kIs, kI_kOs]
  refine ⟨fun q p k => ?_, fun k q hk hq => ?_, fun k hk hq => ?_⟩
  · rw [ea, hO, hI]
    have hP : kO (kGo σ c) 1 q p = some k ↔ kO σ 1 q p = some k ∧ k ≠ c := by
      unfold kGo
      cases hn : kO σ 0 c 0 with
      | none =>
        dsimp only
        rw [kO_kIs, kO_kOs, if_neg (fun q => absurd q.1 (by decide))]
        constructor
        · intro a
          refine ⟨a, fun e => ?_⟩
          subst e
          have := ((h.1 _ _ _).mp a).2.1
          rw [hn] at this; cases this
        · intro a; exact a.1
      | some q0 =>
        obtain ⟨hq0, p0, hp0, hp1⟩ := h.2.1 c q0 hc hn
        have hat : kO σ 1 q0 p0 = some c := (h.1 _ _ _).mpr ⟨hc, hn, hp1⟩
        dsimp only
        rw [show (kI σ 33 c).toNat = p0 by rw [hp1]; rfl, kO_kIs, kO_kOs, if_neg (fun q => absurd q.1 (by decide)), kO_kOs]
        by_cases e : q = q0 ∧ p = p0
        · rw [if_pos ⟨rfl, e⟩]
          obtain ⟨rfl, rfl⟩ := e
          constructor
          · intro a; cases a
          · intro a; rw [hat] at a; exact absurd (Option.some.inj a.1).symm a.2
        · rw [if_neg (fun q => e q.2)]
          constructor
          · intro a
            refine ⟨a, fun e2 => ?_⟩
            subst e2
            have h3 := (h.1 _ _ _).mp a
            have e1 : q0 = q := by have := h3.2.1; rw [hn] at this; exact Option.some.inj this
            have e2 : (p : Int) = p0 := h3.2.2.symm.trans hp1
            exact absurd ⟨e1.symm, by omega⟩ e
          · intro a; exact a.1
    rw [hP]
    by_cases e : k = c
    · rw [if_pos e, if_pos e]
      constructor
      · intro a; exact absurd e a.2
      · intro a; cases a.2.1
    · rw [if_neg e, if_neg e]
      constructor
      · intro a; exact (h.1 _ _ _).mp a.1
      · intro a; exact ⟨(h.1 _ _ _).mpr a, e⟩
  · rw [ea] at hk ⊢
    rw [hO] at hq
    by_cases e : k = c
    · rw [if_pos e] at hq; cases hq
    · rw [if_neg e] at hq
      rw [hI, if_neg e]
      exact h.2.1 k q hk hq
  · rw [ea] at hk
    rw [hO] at hq
    rw [hI]
    by_cases e : k = c
    · rw [if_pos e]
    · rw [if_neg e] at hq ⊢
      exact h.2.2 k hk hq
theorem kNx_lt (h : KPl σ) {kq p d : Nat} (hd : kNx σ kq p = some d) : d < kA σ 61 0 := by
  unfold kNx at hd
  split at hd
  · exact ((h.1 _ _ _).mp hd).1
  · cases hd
theorem kMov_c {n nk f k : Nat} (h1 : 33 ≤ f) (h2 : f ≤ 36) (h : k < n) : kMov n nk f k := Or.inr (Or.inr (Or.inr (Or.inr (Or.inl ⟨h1, h2, h⟩))))
theorem kUc_stk (τ : KS) {c d : Nat} (hc : c < kA τ 61 0) (hd : d < kA τ 61 0) : kUc τ (kStk τ c d) := (kUc.is τ _ (kMov_c (by decide) (by decide) hc)).trans (kUc.is _ _ (kMov_c (by decide) (by decide) hd))
theorem kFrN_P (h : KPl σ) {kq : Nat} {hh : Int32} {t k : Nat → Nat → Int32} : ∀ n, KPl (kFrN F σ kq hh t k n) ∧ kUc σ (kFrN F σ kq hh t k n) := by
  intro n
  induction n with
  | zero => exact ⟨h, kUc.refl σ⟩
  | succ n ih =>
    cases hc : kO σ 1 kq n with
    | none => rw [kFrN_n hc]; exact ih
    | some c =>
      have hcl : c < kA σ 61 0 := ((h.1 _ _ _).mp hc).1
      rw [kFrN_s hc]
      have ha := kA_kFrN (F := F) (σ := σ) (kq := kq) (hh := hh) (t := t) (k := k) n
      generalize kFrN F σ kq hh t k n = τ at ih ha
      obtain ⟨ih1, ih2⟩ := ih
      have hs : KPl (kFs F σ kq hh t τ n c) ∧ kUc σ (kFs F σ kq hh t τ n c) := by
        unfold kFs
        cases hx : kNx σ kq n with
        | none => exact ⟨ih1, ih2⟩
        | some d =>
          dsimp only
          have hdl := kNx_lt h hx
          split
          · exact ⟨ih1, ih2⟩
          · exact ⟨KPl_is (KPl_is ih1 (by decide) _ _) (by decide) _ _, ih2.trans (kUc_stk τ (by rw [ha]; exact hcl) (by rw [ha]; exact hdl))⟩
      have ha2 : kA (kFs F σ kq hh t τ n c) = kA σ := by rw [kA_kFs, ha]
      generalize kFs F σ kq hh t τ n c = υ at hs ha2
      refine ⟨KPl_go (KPl_is (KPl_is hs.1 (by decide) _ _) (by decide) _ _) (show c < kA υ 61 0 by rw [ha2]; exact hcl), hs.2.trans (((kUc.is υ _ (kMov_c (by decide) (by decide) (by rw [ha2]; exact hcl))).trans (kUc.is _ _ (kMov_c (by decide) (by decide) (show c < kA υ 61 0 by rw [ha2]; exact hcl)))).trans (kUc.go _ (show c < kA υ 61 0 by rw [ha2]; exact hcl)))⟩
theorem kFd_P (h : KPl σ) {k : Nat} (hk : k < kA σ 62 0) : KPl (kFd F σ k gu) ∧ kUc σ (kFd F σ k gu) := by
  have hp : KPl (kPaid F σ k) := KPl_is h (by decide) _ _
  have hq : kUc σ (kPaid F σ k) := kUc.is σ _ (Or.inr (Or.inr (Or.inr (Or.inl ⟨rfl, rfl⟩))))
  have hr := kFrN_P (F := F) hp (kq := k) (hh := kHt σ k gu) (t := kBT F (kPaid F σ k) k (kHt σ k gu)) (k := kBK F (kPaid F σ k) k (kHt σ k gu)) (kA (kPaid F σ k) 25 k)
  refine ⟨KPl_is hr.1 (by decide) _ _, (hq.trans hr.2).trans (kUc.is _ _ (Or.inr (Or.inr (Or.inr (Or.inr (Or.inr ⟨rfl, ?_⟩))))))⟩
  rw [kA_kFrN]; exact hk
theorem kFdS_P (h : KPl σ) {k : Nat} (hk : k < kA σ 62 0) : KPl (kFdS F σ k gu) ∧ kUc σ (kFdS F σ k gu) := by
  have hr := kFd_P (F := F) (gu := gu) h hk
  exact ⟨KPl_is hr.1 (by decide) _ _, hr.2.trans (kUc.is _ _ (Or.inr (Or.inr (Or.inl ⟨rfl, rfl⟩))))⟩
theorem kWkN_P (h : KPl σ) : ∀ n, n ≤ kA σ 62 0 → KPl (kWkN F gu σ n) ∧ kUc σ (kWkN F gu σ n) := by
  intro n
  induction n with
  | zero =>
    intro _
    exact ⟨KPl_is (KPl_is h (by decide) _ _) (by decide) _ _, (kUc.is σ _ (Or.inr (Or.inr (Or.inl ⟨rfl, rfl⟩)))).trans (kUc.is _ _ (Or.inr (Or.inr (Or.inr (Or.inl ⟨rfl, rfl⟩)))))⟩
  | succ n ih =>
    intro hn
    obtain ⟨a, b⟩ := ih (by omega)
    show KPl (kW1 F gu (kWkN F gu σ n) n) ∧ kUc σ (kW1 F gu (kWkN F gu σ n) n)
    unfold kW1
    split
    · exact ⟨a, b⟩
    · have := kFdS_P (F := F) (gu := gu) a (k := n) (by rw [kA_kWkN]; omega)
      exact ⟨this.1, b.trans this.2⟩
theorem kWk_P (h : KPl σ) : KPl (kWk F gu σ) ∧ kUc σ (kWk F gu σ) := by
  obtain ⟨a, b⟩ := kWkN_P (F := F) (gu := gu) h (kA σ 62 0) (Nat.le_refl _)
  exact ⟨KPl_is a (by decide) _ _, b.trans (kUc.is _ _ (Or.inl ⟨rfl, rfl⟩))⟩
theorem kGs_P (h : KPl σ) : ∀ n, KPl (kGs F σ n) ∧ kUc σ (kGs F σ n) := by
  intro n
  induction n with
  | zero => exact ⟨h, kUc.refl σ⟩
  | succ n ih =>
    have := kWk_P (F := F) (gu := 0) ih.1
    exact ⟨this.1, ih.2.trans this.2⟩
theorem kI4_kWk (σ : KS) : kI (kWk F gu σ) 4 0 = kI σ 4 0 := by
  unfold kWk
  rw [kI_kIs, if_neg (fun q => absurd q.1 (by decide)), kI_kWkN σ (by decide) (by decide) (by decide) (by decide)]
theorem kI3_kWk (σ : KS) : kI (kWk F gu σ) 3 0 = kI σ 3 0 + 1 := by
  unfold kWk
  rw [kI_kIs, if_pos ⟨rfl, rfl⟩]
theorem kI4_kGs (σ : KS) : ∀ n, kI (kGs F σ n) 4 0 = kI σ 4 0 := by
  intro n
  induction n with
  | zero => rfl
  | succ n ih => show kI (kWk F 0 (kGs F σ n)) 4 0 = _; rw [kI4_kWk, ih]
theorem kI3_kGs (σ : KS) : ∀ n : Nat, kI (kGs F σ n) 3 0 = kI σ 3 0 + n := by
  intro n
  induction n with
  | zero => show kI σ 3 0 = _; simp
  | succ n ih => show kI (kWk F 0 (kGs F σ n)) 3 0 = _; rw [kI3_kWk, ih]; omega
theorem kWr_t (ht : ¬ iI (kI σ 4 0) = 0) : ∀ n, kWr F gu σ n = [] := by
  intro n
  induction n with
  | zero => rfl
  | succ n ih => unfold kWr; rw [ih, if_pos (Or.inr (Or.inr (Or.inr ht)))]; rfl
theorem kRs_t (ht : ¬ iI (kI σ 4 0) = 0) : ∀ n, kRs F σ n = [] := by
  intro n
  induction n with
  | zero => rfl
  | succ n ih => unfold kRs; rw [ih, kWr_t (by rw [kI4_kGs]; exact ht)]; rfl
theorem kD_uc (h : kUc σ τ) : kD τ = kD σ := by
  unfold kD
  rw [h.1, h.2.2.2.1, h.2.1 16 0 (by unfold kMov; omega)]
theorem kWok_kWf (hw : KW σ) (hp : KPl σ) : kWok (kWf σ (kA σ 61 0)) (kA σ 61 0) (kA σ 62 0) := by
  intro c hc h1 h2
  have w0 : kWf σ (kA σ 61 0) (5 * c) = kKil σ c := (kWf_5 (j := 0) hc (by decide)).trans (kWas_k c 0 (by decide))
  have w1 : kWf σ (kA σ 61 0) (5 * c + 1) = iI (kI σ 33 c) := (kWf_5 hc (by decide)).trans (kWas_k c 1 (by decide))
  rw [w0] at h1 h2
  unfold kKil at h1 h2
  cases hk : kO σ 0 c 0 with
  | none => rw [hk] at h1; exact absurd h1 (by decide)
  | some q =>
    obtain ⟨hq, pl, p1, p2⟩ := hp.2.1 c q hc hk
    have := hw.2.2.2.1 q hq
    exact ⟨pl, by omega, by rw [w1, p2, iI_nat]⟩
end KPS

theorem m_week_t {l : Launch} {s0 : State} {D : va_G} (h0 : x0 l s0 D) (σ : KS) (gF : xG) (f : aEnv) {F : Nat → Option (aEnv → Int64)} {d0 : Nat} (hF : kF gF σ F) (hv : KV σ) (hp : KPl σ) (hKR : KR σ) (hT : KTc σ d0) (hz : xE0 s0 gF d0) (h6 : kA σ 63 0 ≤ 7) (hNB : kNB gF) (h60 : gF (60, 0) = none) (h53 : gF (53, 0) = none) (gu : Int32) (ht : ¬ iI (kI σ 4 0) = 0) : xMet l s0 D yX2_weekGoes cX2_weekGoes 7 none (xr 40 66 411 1800) [.ref (kA σ 0 0), .int gu] (kmix (kT σ f) gF) (fun r g1 => ∃ f1, r = none ∧ g1 = kmix (kT (kWk F gu σ) f1) gF) := by
  refine (m_X2_weekGoes h0 σ gF f hF hv hKR hT hz h6 hNB h60 h53 gu).post (fun v g1 h => ?_)
  obtain ⟨f1, X, e1, e2, e3⟩ := h
  have e4 := e2.2.2.2.2 (kWr_t ht _)
  refine ⟨f1, e1, ?_⟩
  rw [e3, e4, ← kD_uc (kWk_P (F := F) (gu := gu) hp).2, kTd_kD]
theorem m_goes_t {l : Launch} {s0 : State} {D : va_G} (h0 : x0 l s0 D) (σ : KS) (gF : xG) (f : aEnv) {F : Nat → Option (aEnv → Int64)} {d0 : Nat} (hF : kF gF σ F) (hv : KV σ) (hp : KPl σ) (hKR : KR σ) (hT : KTc σ d0) (hz : xE0 s0 gF d0) (h6 : kA σ 63 0 ≤ 7) (hNB : kNB gF) (h60 : gF (60, 0) = none) (h53 : gF (53, 0) = none) (ht : ¬ iI (kI σ 4 0) = 0) (n1 : Nat) (hn1 : n1 ≤ 40) : xMet l s0 D yX2_goes cX2_goes 4 (some .int) (xr 42 (66 * n1) (411 * n1) 1900) [.ref (kA σ 0 0), .int (nI n1)] (kmix (kT σ f) gF) (fun r g1 => ∃ f1, r = some (.int (kSm F σ n1)) ∧ g1 = kmix (kT (kGs F σ n1) f1) gF) := by
  refine (m_X2_goes h0 σ gF f hF hv hKR hT hz hNB h60 h53 n1 hn1 (fun k _ => by rw [kRs_t ht]; exact h6)).post (fun v g1 h => ?_)
  obtain ⟨f1, ρ, e1, ⟨X, e2, e3⟩, e4⟩ := h
  have e5 := e3.2.2.2.2 (kRs_t ht _)
  refine ⟨f1, e1, ?_⟩
  rw [e4, e2, e5, ← kD_uc (kGs_P (F := F) hp n1).2, kTd_kD]
