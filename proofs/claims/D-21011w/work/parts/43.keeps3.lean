/-! keeps, as one contract; set, take, light -/
/-- behind keeps: σ1 is σ but for its acts -/
def kKp (σ σ1 : KS) (d0 : Nat) : Prop := ∃ (T : KS) (a aw ah al d da cap : Nat), (T = σ ∧ kA σ 65 0 < 20 ∨ T = kShift σ ∧ kA σ 65 0 = 20) ∧ kCap cap ∧ kA T 65 0 + 1 ≤ cap ∧ (kA T 63 0 = 0 → d = d0) ∧ σ1 = kPush T a aw ah al d da cap
theorem m_X2_keeps {l : Launch} {s0 : State} {D : va_G} (h0 : x0 l s0 D) (σ : KS) (gF : xG) {d0 : Nat} (hw : KW σ) (hz : xE0 s0 gF d0) (h10 : kA σ 63 0 ≤ 10) (h48 : ∀ k, 48 ≤ k → k ≤ 52 → gF (k, 0) = none) (h54 : gF (54, 0) = none) (hac : KAc σ d0) : xMet l s0 D yX2_keeps cX2_keeps 1 none (xr 21 25 340 1100) [.ref (kA σ 0 0)] (kmix σ gF) (fun r g1 => ∃ σ1, r = none ∧ kKp σ σ1 d0 ∧ g1 = kmix σ1 gF) := by
  by_cases hs : kA σ 65 0 < 20
  · refine (m_X2_keeps_A h0 σ gF hw hz h10 h48 h54 hs hac.2).post (fun r g1 hp => ?_)
    obtain ⟨a, aw, ah, al, d, da, cap, h1, h2, h3, h4, h5⟩ := hp
    exact ⟨_, h1, ⟨σ, a, aw, ah, al, d, da, cap, Or.inl ⟨rfl, hs⟩, h2, h3, h4, rfl⟩, h5⟩
  · have hs2 : kA σ 65 0 = 20 := by have := hac.1; omega
    have hc : kCap (kA σ 75 0) ∧ kA σ 65 0 ≤ kA σ 75 0 := by
      rcases hac.2 with q | q
      · omega
      · exact q
    refine (m_X2_keeps_B h0 σ gF hw hz h10 h48 h54 hs2 ⟨trivial, hc⟩).post (fun r g1 hp => ?_)
    obtain ⟨a, aw, ah, al, d, da, cap, h1, h2, h3, h4, h5⟩ := hp
    exact ⟨_, h1, ⟨_, a, aw, ah, al, d, da, cap, Or.inr ⟨rfl, hs2⟩, h2, h3, h4, rfl⟩, h5⟩
def kfA (f : Nat) : Bool := !(f == 65 || f == 17 || f == 75 || f == 30 || f == 31 || f == 32 || f == 33 || f == 34 || f == 66 || f == 76)
def kfI (f : Nat) : Bool := !(f == 18 || f == 21 || f == 22 || f == 23)
def kfV (f : Nat) : Bool := !(f == 5 || f == 6)
theorem kKp.A {σ σ1 : KS} {d0 : Nat} (h : kKp σ σ1 d0) {f : Nat} (hf : kfA f = true) (k : Nat) : kA σ1 f k = kA σ f k := by
  obtain ⟨T, a, aw, ah, al, d, da, cap, hT, -, -, -, rfl⟩ := h
  simp [kfA] at hf
  rcases hT with ⟨rfl, -⟩ | ⟨rfl, -⟩
  · simp [kA_kPush, hf]
  · simp [kA_kPush, kA_kShift, hf]
theorem kKp.I {σ σ1 : KS} {d0 : Nat} (h : kKp σ σ1 d0) {f : Nat} (hf : kfI f = true) (k : Nat) : kI σ1 f k = kI σ f k := by
  obtain ⟨T, a, aw, ah, al, d, da, cap, hT, -, -, -, rfl⟩ := h
  simp [kfI] at hf
  rcases hT with ⟨rfl, -⟩ | ⟨rfl, -⟩
  · simp [kI_kPush, hf]
  · simp [kI_kPush, kI_kShift, hf]
theorem kKp.V {σ σ1 : KS} {d0 : Nat} (h : kKp σ σ1 d0) {f : Nat} (hf : kfV f = true) (k j : Nat) : kV σ1 f k j = kV σ f k j := by
  obtain ⟨T, a, aw, ah, al, d, da, cap, hT, -, -, -, rfl⟩ := h
  simp [kfV] at hf
  rcases hT with ⟨rfl, -⟩ | ⟨rfl, -⟩
  · simp [kV_kPush, hf]
  · simp [kV_kPush, kV_kShift, hf]
theorem kKp.O {σ σ1 : KS} {d0 : Nat} (h : kKp σ σ1 d0) : kO σ1 = kO σ := by
  obtain ⟨T, a, aw, ah, al, d, da, cap, hT, -, -, -, rfl⟩ := h
  rcases hT with ⟨rfl, -⟩ | ⟨rfl, -⟩ <;> rfl
theorem kKp.L {σ σ1 : KS} {d0 : Nat} (h : kKp σ σ1 d0) : kL σ1 = kL σ := by
  obtain ⟨T, a, aw, ah, al, d, da, cap, hT, -, -, -, rfl⟩ := h
  rcases hT with ⟨rfl, -⟩ | ⟨rfl, -⟩ <;> rfl
/-- the acts behind keeps -/
theorem kKp.acts {σ σ1 : KS} {d0 : Nat} (h : kKp σ σ1 d0) : 0 < kA σ1 65 0 ∧ kA σ1 65 0 ≤ 20 ∧ kCap (kA σ1 75 0) ∧ kA σ1 65 0 ≤ kA σ1 75 0 ∧ kA σ1 66 (kA σ1 65 0 - 1) = kA σ 63 0 ∧ kA σ1 76 (kA σ1 65 0 - 1) = (if kA σ 63 0 = 0 then 0 else 10) ∧ kI σ1 21 (kA σ1 65 0 - 1) = kI σ 3 0 ∧ kI σ1 22 (kA σ1 65 0 - 1) = kI σ 7 0 ∧ (∀ j, iI (kV σ1 5 (kA σ1 65 0 - 1) j) = kWf σ (kA σ 61 0) j) ∧ (∀ j, iI (kV σ1 6 (kA σ1 65 0 - 1) j) = kHf σ (kA σ 62 0) j) := by
  obtain ⟨T, a, aw, ah, al, d, da, cap, hT, h1, h2, h3, rfl⟩ := h
  rcases hT with ⟨rfl, hs⟩ | ⟨rfl, hs⟩
  · have e : kA (kPush T a aw ah al d da cap) 65 0 = kA T 65 0 + 1 := by simp [kA_kPush]
    rw [e]
    have e1 : kA T 65 0 + 1 - 1 = kA T 65 0 := by omega
    rw [e1]
    have e2 : kA (kPush T a aw ah al d da cap) 75 0 = cap := by simp [kA_kPush]
    rw [e2]
    refine ⟨by omega, by omega, h1, h2, by simp [kA_kPush], by simp [kA_kPush], by simp [kI_kPush], by simp [kI_kPush], fun j => by simp [kV_kPush, iI_self], fun j => by simp [kV_kPush, iI_self]⟩
  · have e0 : kA (kShift σ) 65 0 = 19 := by simp [kA_kShift, hs]
    have e : kA (kPush (kShift σ) a aw ah al d da cap) 65 0 = 20 := by simp [kA_kPush, e0]
    rw [e]
    have e2 : kA (kPush (kShift σ) a aw ah al d da cap) 75 0 = cap := by simp [kA_kPush]
    rw [e2]
    rw [e0] at h2
    have w1 : kWf (kShift σ) (kA (kShift σ) 61 0) = kWf σ (kA σ 61 0) := rfl
    have w2 : kHf (kShift σ) (kA (kShift σ) 62 0) = kHf σ (kA σ 62 0) := rfl
    have a1 : kA (kShift σ) 63 0 = kA σ 63 0 := by simp [kA_kShift]
    refine ⟨by omega, by omega, h1, h2, by simp [kA_kPush, e0, a1], by simp [kA_kPush, e0, a1], by simp [kI_kPush, kI_kShift, e0], by simp [kI_kPush, kI_kShift, e0], fun j => by simp [kV_kPush, iI_self, e0, w1], fun j => by simp [kV_kPush, iI_self, e0, w2]⟩
theorem kKp.W {σ σ1 : KS} {d0 : Nat} (h : kKp σ σ1 d0) (hw : KW σ) : KW σ1 := by
  have hac := h.acts
  obtain ⟨h1, h2, h3, h4, h5, h6⟩ := hw
  have a61 := h.A (f := 61) rfl 0
  have a62 := h.A (f := 62) rfl 0
  refine ⟨by rw [a61]; exact h1, by rw [a62]; exact h2, fun s q1 q2 => ?_, fun q hq => ?_, fun c q hc hq => ?_, fun q p c hq hz => ?_⟩
  · have hs : s = 61 ∨ s = 62 ∨ s = 63 ∨ s = 64 ∨ s = 65 := by omega
    have := h3 s q1 q2
    rcases hs with rfl | rfl | rfl | rfl | rfl
    · rw [h.A rfl, h.A rfl]; exact this
    · rw [h.A rfl, h.A rfl]; exact this
    · rw [h.A rfl, h.A rfl]; exact this
    · rw [h.A rfl, h.A rfl]; exact this
    · refine ⟨hac.2.2.2.1, ?_⟩
      show kA σ1 75 0 < 1048576
      rcases hac.2.2.1 with q | q | q <;> omega
  · rw [h.A rfl]; exact h4 q (by rw [← a62]; exact hq)
  · rw [h.O] at hq; rw [a62]; exact h5 c q (by rw [← a61]; exact hc) hq
  · rw [h.O] at hz; rw [a61]; exact h6 q p c (by rw [← a62]; exact hq) hz
theorem kKp.KV {σ σ1 : KS} {d0 : Nat} (h : kKp σ σ1 d0) (hv : KV σ) : KV σ1 := by
  refine ⟨h.W hv.1, fun c q hc hq => ?_⟩
  rw [h.O] at hq
  obtain ⟨pl, p1, p2⟩ := hv.2 c q (by rw [← h.A (f := 61) rfl 0]; exact hc) hq
  exact ⟨pl, p1, by rw [h.I rfl]; exact p2⟩
