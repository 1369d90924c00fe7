/-! isBack: mirrors of what it does to the state -/
/-- the shape is in order, and who lies in a kiln lies in one of its six places -/
def KV (σ : KS) : Prop := KW σ ∧ ∀ c q, c < kA σ 61 0 → kO σ 0 c 0 = some q → ∃ pl : Nat, pl < 6 ∧ kI σ 33 c = pl
def kGo (σ : KS) (c : Nat) : KS := match kO σ 0 c 0 with
  | none => kIs (kOs σ 0 c 0 none) 33 c (-1)
  | some q => kIs (kOs (kOs σ 1 q (kI σ 33 c).toNat none) 0 c 0 none) 33 c (-1)
def kOutN (σ : KS) : Nat → KS
  | 0 => σ
  | n + 1 => kGo (kOutN σ n) n
theorem kA_kGo (σ : KS) (c : Nat) : kA (kGo σ c) = kA σ := by unfold kGo; split <;> rfl
theorem kA_kOutN (σ : KS) : ∀ n, kA (kOutN σ n) = kA σ := by
  intro n
  induction n with
  | zero => rfl
  | succ n ih => unfold kOutN; rw [kA_kGo, ih]
theorem kGo_V {σ : KS} (h : KV σ) (c : Nat) : KV (kGo σ c) := by
  obtain ⟨⟨h1, h2, h3, h4, h5, h6⟩, h7⟩ := h
  have ea := kA_kGo σ c
  have hO : ∀ k j, kO (kGo σ c) 0 k j = if k = c ∧ j = 0 then none else kO σ 0 k j := by
    intro k j; unfold kGo; split <;> simp [kO_kIs, kO_kOs]
  have hP : ∀ q p z, kO (kGo σ c) 1 q p = some z → kO σ 1 q p = some z := by
    intro q p z
    unfold kGo
    split
    · simp [kO_kIs, kO_kOs]
    · simp only [kO_kIs, kO_kOs]
      intro h
      split at h
      · rename_i e; exact absurd e.1 (by decide)
      · split at h
        · cases h
        · exact h
  have hI : ∀ k, k ≠ c → kI (kGo σ c) 33 k = kI σ 33 k := by
    intro k hk; unfold kGo; split <;> simp [kI_kIs, kI_kOs, hk]
  refine ⟨⟨by rw [ea]; exact h1, by rw [ea]; exact h2, by rw [ea]; exact h3, by rw [ea]; exact h4, fun k q hk hq => ?_, fun q p z hq hz => ?_⟩, fun k q hk hq => ?_⟩
  · rw [ea] at hk ⊢
    rw [hO] at hq
    split at hq
    · cases hq
    · exact h5 k q hk hq
  · rw [ea] at hq ⊢
    exact h6 q p z hq (hP q p z hz)
  · rw [ea] at hk
    rw [hO] at hq
    split at hq
    · cases hq
    · rename_i e
      have hkc : k ≠ c := fun q => e ⟨q, rfl⟩
      obtain ⟨pl, p1, p2⟩ := h7 k q hk hq
      exact ⟨pl, p1, by rw [hI k hkc]; exact p2⟩
theorem kOutN_V {σ : KS} (h : KV σ) : ∀ n, KV (kOutN σ n) := by
  intro n
  induction n with
  | zero => exact h
  | succ n ih => exact kGo_V ih n
theorem m_X8_goesOut {l : Launch} {s0 : State} {D : va_G} (h0 : x0 l s0 D) (σ : KS) (gF : xG) (hv : KV σ) (ch : Nat) (hc : ch < kA σ 61 0) : xMet l s0 D yX8_goesOut cX8_goesOut 1 none (xr 0 0 0 0) [.ref (kA σ 20 ch)] (kmix σ gF) (fun r g1 => r = none ∧ g1 = kmix (kGo σ ch) gF) := by
  unfold kGo
  cases hn : kO σ 0 ch 0 with
  | none => exact m_X8_goesOut_n h0 σ gF ch hc hn
  | some kq =>
    obtain ⟨pl, p1, p2⟩ := hv.2 ch kq hc hn
    have e : (kI σ 33 ch).toNat = pl := by rw [p2]; rfl
    simp only [e]
    exact m_X8_goesOut_s h0 σ gF ch hc (hv.1.2.2.2.2.1 ch kq hc hn) hn p2 p1
/-- goesIn of a kiln by its number (none: out), at a place -/
def kGi (σ : KS) (c : Nat) (x y : Int32) : KS := if 0 ≤ x.toInt ∧ x.toInt < kA σ 62 0 then kOs (kIs (kOs σ 0 c 0 (some x.toInt.toNat)) 33 c y.toInt) 1 x.toInt.toNat y.toInt.toNat (some c) else kIs (kOs σ 0 c 0 none) 33 c (-1)
def kIn (w : Nat → Int32) (σ : KS) (c : Nat) : KS := kIs (kIs (kIs (kGi σ c (w (5 * c)) (w (5 * c + 1))) 34 c (w (5 * c + 2)).toInt) 36 c (if w (5 * c + 3) = 1 then 1 else 0)) 35 c (w (5 * c + 4)).toInt
def kInN (w : Nat → Int32) (σ : KS) : Nat → KS
  | 0 => σ
  | n + 1 => kIn w (kInN w σ n) n
def kHtN (ht : Nat → Int32) (σ : KS) : Nat → KS
  | 0 => σ
  | n + 1 => kIs (kHtN ht σ n) 41 n (ht n).toInt
theorem kA_kGi (σ : KS) (c : Nat) (x y : Int32) : kA (kGi σ c x y) = kA σ := by unfold kGi; split <;> rfl
theorem kA_kInN (w : Nat → Int32) (σ : KS) : ∀ n, kA (kInN w σ n) = kA σ := by
  intro n
  induction n with
  | zero => rfl
  | succ n ih => unfold kInN kIn; simp only [kA_kIs]; rw [kA_kGi, ih]
theorem kA_kHtN (w : Nat → Int32) (σ : KS) : ∀ n, kA (kHtN w σ n) = kA σ := by
  intro n
  induction n with
  | zero => rfl
  | succ n ih => unfold kHtN; simp only [kA_kIs]; rw [ih]
/-- all of isBack -/
def kBack (σ : KS) (w ht : Nat → Int32) (wk fu : Int) : KS := kHtN ht (kInN w (kOutN (kIs (kIs σ 3 0 wk) 7 0 fu) (kA σ 61 0)) (kA σ 61 0)) (kA σ 62 0)
/-- who is said to lie in a kiln is said to lie in one of six places -/
def kWok (w : Nat → Int32) (nc nk : Nat) : Prop := ∀ c, c < nc → 0 ≤ (w (5 * c)).toInt → (w (5 * c)).toInt < nk → ∃ pl : Nat, pl < 6 ∧ w (5 * c + 1) = nI pl
theorem KW.of {σ σ' : KS} (h : KW σ) (ha : kA σ' = kA σ) (h5 : ∀ c q, c < kA σ 61 0 → kO σ' 0 c 0 = some q → q < kA σ 62 0) (h6 : ∀ q p c, q < kA σ 62 0 → kO σ' 1 q p = some c → c < kA σ 61 0) : KW σ' := by
  obtain ⟨h1, h2, h3, h4, -, -⟩ := h
  exact ⟨by rw [ha]; exact h1, by rw [ha]; exact h2, by rw [ha]; exact h3, by rw [ha]; exact h4, by rw [ha]; exact h5, by rw [ha]; exact h6⟩
theorem kGi_W {σ : KS} (h : KW σ) {c : Nat} (hc : c < kA σ 61 0) (x y : Int32) : KW (kGi σ c x y) := by
  refine h.of (kA_kGi _ _ _ _) (fun k q hk hq => ?_) (fun q p z hq hz => ?_)
  · unfold kGi at hq
    split at hq
    · rename_i e
      simp only [kO_kOs, kO_kIs] at hq
      split at hq
      · rename_i e2; exact absurd e2.1 (by decide)
      · split at hq
        · cases hq; omega
        · exact h.2.2.2.2.1 k q hk hq
    · simp only [kO_kOs, kO_kIs] at hq
      split at hq
      · cases hq
      · exact h.2.2.2.2.1 k q hk hq
  · unfold kGi at hz
    split at hz
    · simp only [kO_kOs, kO_kIs] at hz
      split at hz
      · cases hz; exact hc
      · split at hz
        · rename_i e2; exact absurd e2.1 (by decide)
        · exact h.2.2.2.2.2 q p z hq hz
    · simp only [kO_kOs, kO_kIs] at hz
      split at hz
      · rename_i e2; exact absurd e2.1 (by decide)
      · exact h.2.2.2.2.2 q p z hq hz
theorem kInN_W {σ : KS} (h : KW σ) (w : Nat → Int32) : ∀ n, n ≤ kA σ 61 0 → KW (kInN w σ n) := by
  intro n
  induction n with
  | zero => intro _; exact h
  | succ n ih =>
    intro hn
    have h1 := ih (by omega)
    have h2 := kGi_W h1 (c := n) (by rw [kA_kInN]; omega) (w (5 * n)) (w (5 * n + 1))
    exact h2
theorem kHtN_W {σ : KS} (h : KW σ) (w : Nat → Int32) : ∀ n, KW (kHtN w σ n) := by
  intro n
  induction n with
  | zero => exact h
  | succ n ih => exact ih
