/-! the law's text is read as the law's town -/
def τK (α : aA) : Nat → tS
  | 0 => τ00
  | i + 1 => tMore (tKidS (τK α i) (aCl α i) (aGr α i))
def τQ (α : aA) : Nat → tS
  | 0 => τK α (aI α 0)
  | i + 1 => tMore (tKlnS (τQ α i) (aRo α i))
def gS (α : aA) (G : Nat → Option (aEnv → Int64)) (j q b : Nat) : Nat → Option (aEnv → Int64) := if aI α q = 0 then G else fun i => if i = j then some (fVl (b + (aI α q - 1))) else G i
def τS (α : aA) (τ : tS) (q : Nat) : tS := if aI α q = 0 then τ else tMore τ
def τA (α : aA) : tS := tMore (tNumS (tMore (tNumS (tMore (tNumS (τS α (τS α (τS α (τS α (τQ α (aI α 1)) 2) 3) 4) 5) 0 (aI α 6))) 1 (aI α 7))) 2 (aI α 8))
def aFo (α : aA) : Nat → Option (aEnv → Int64) := gS α (gS α (gS α (gS α (fun _ => none) 0 2 70) 2 3 74) 3 4 78) 1 5 82
theorem τK_f (α : aA) : ∀ i, tnc (τK α i) = i ∧ tnk (τK α i) = 0 ∧ tst (τK α i) = i ∧ (∀ c, c < i → tcl (τK α i) c = aCl α c ∧ tgr (τK α i) c = aGr α c)
  | 0 => ⟨rfl, rfl, rfl, fun c h => absurd h (Nat.not_lt_zero c)⟩
  | i + 1 => by
    obtain ⟨h1, h2, h3, h4⟩ := τK_f α i
    refine ⟨congrArg (· + 1) h1, h2, congrArg (· + 1) h3, fun c h => ?_⟩
    show (if c = tnc (τK α i) then aCl α i else tcl (τK α i) c) = _ ∧ (if c = tnc (τK α i) then aGr α i else tgr (τK α i) c) = _
    rw [h1]
    by_cases e : c = i
    · rw [if_pos e, if_pos e, e]; exact ⟨rfl, rfl⟩
    · rw [if_neg e, if_neg e]; exact h4 c (by omega)
theorem τQ_f (α : aA) : ∀ i, tnc (τQ α i) = aI α 0 ∧ tnk (τQ α i) = i ∧ tst (τQ α i) = aI α 0 + i ∧ (∀ c, c < aI α 0 → tcl (τQ α i) c = aCl α c ∧ tgr (τQ α i) c = aGr α c) ∧ ∀ q, q < i → trm (τQ α i) q = aRo α q
  | 0 => by
    obtain ⟨h1, h2, h3, h4⟩ := τK_f α (aI α 0)
    exact ⟨h1, h2, h3, h4, fun c h => absurd h (Nat.not_lt_zero c)⟩
  | i + 1 => by
    obtain ⟨h1, h2, h3, h4, h5⟩ := τQ_f α i
    refine ⟨h1, congrArg (· + 1) h2, congrArg (· + 1) h3, h4, fun c h => ?_⟩
    show (if c = tnk (τQ α i) then aRo α i else trm (τQ α i) c) = _
    rw [h2]
    by_cases e : c = i
    · rw [if_pos e, e]
    · rw [if_neg e]; exact h5 c (by omega)
theorem sRun_k (α : aA) (hc : ∀ c, aCl α c < 80) (hg : ∀ c, aGr α c < 10) (G : Nat → Option (aEnv → Int64)) {X1 : sX} : ∀ (i n : Nat) (ts : List Tk), i ≤ 6 → sRun n (τK α i, G) ts X1 → sRun (n + i) (τ00, G) (tkK α i ++ ts) X1
  | 0, n, ts, _, h => h
  | i + 1, n, ts, hi, h => by
    show sRun (n + (i + 1)) (τ00, G) (tkK α i ++ kidT α i ++ ts) X1
    rw [List.append_assoc, show n + (i + 1) = (n + 1) + i by omega]
    refine sRun_k α hc hg G i (n + 1) _ (by omega) ⟨_, ts, Or.inl ⟨sD (aCl α i), sD (aGr α i), ?_, ?_, ?_, ?_, rfl⟩, ?_⟩
    · rw [(τK_f α i).1]; rfl
    · rw [sN_sD (by have := hc i; omega)]; have := hc i; omega
    · rw [sN_sD (by have := hg i; omega)]; have := hg i; omega
    · show tnc (τK α i) < 6
      rw [(τK_f α i).1]; omega
    · rw [sN_sD (by have := hc i; omega), sN_sD (by have := hg i; omega)]
      exact h
theorem sRun_q (α : aA) (hr : ∀ q, 1 ≤ aRo α q ∧ aRo α q ≤ 6) (G : Nat → Option (aEnv → Int64)) {X1 : sX} : ∀ (i n : Nat) (ts : List Tk), i ≤ 3 → sRun n (τQ α i, G) ts X1 → sRun (n + i) (τK α (aI α 0), G) (tkQ α i ++ ts) X1
  | 0, n, ts, _, h => h
  | i + 1, n, ts, hi, h => by
    show sRun (n + (i + 1)) (τK α (aI α 0), G) (tkQ α i ++ klnT α i ++ ts) X1
    rw [List.append_assoc, show n + (i + 1) = (n + 1) + i by omega]
    refine sRun_q α hr G i (n + 1) _ (by omega) ⟨_, ts, Or.inr (Or.inl ⟨sD (aRo α i), ?_, ?_, ?_, ?_, rfl⟩), ?_⟩
    · rw [(τQ_f α i).2.1]; rfl
    · rw [sN_sD (by have := hr i; omega)]; have := hr i; omega
    · rw [sN_sD (by have := hr i; omega)]; have := hr i; omega
    · show tnk (τQ α i) < 3
      rw [(τQ_f α i).2.1]; omega
    · rw [sN_sD (by have := hr i; omega)]
      exact h

theorem fQ_0 (ts : List Tk) : ∀ t, t < 4 → ∃ h, (pLv 2 4 1).1 (fTk (70 + t) ++ (3, [59]) :: ts) = some (fVl (70 + t), h, (3, [59]) :: ts) ∧ h ≤ 6
  | 0, _ => fP_70 ts
  | 1, _ => fP_71 ts
  | 2, _ => fP_72 ts
  | 3, _ => fP_73 ts
  | t + 4, h => absurd h (by omega)
theorem sRun_f0 (α : aA) (ht : aI α 2 ≤ 4) {G : Nat → Option (aEnv → Int64)} (hG : G 0 = none) {τ : tS} {X1 : sX} {n : Nat} {ts : List Tk} (h : sRun n (τS α τ 2, gS α G 0 2 70) ts X1) : sRun (n + (if aI α 2 = 0 then 0 else 1)) (τ, G) (fmT α 2 6 70 ++ ts) X1 := by
  unfold fmT
  unfold τS gS at h
  by_cases e : aI α 2 = 0
  · rw [if_pos e, if_pos e] at h
    rw [if_pos e, if_pos e]
    exact h
  · rw [if_neg e, if_neg e] at h
    rw [if_neg e, if_neg e]
    obtain ⟨d, h1, h2⟩ := fQ_0 ts (aI α 2 - 1) (by omega)
    refine ⟨_, ts, Or.inr (Or.inr (Or.inl (⟨fTk (70 + (aI α 2 - 1)) ++ (3, [59]) :: ts, _, by simp, h1, rfl, h2, hG, rfl⟩))), h⟩

theorem fQ_2 (ts : List Tk) : ∀ t, t < 4 → ∃ h, (pLv 2 5 1).2 (fTk (74 + t) ++ (3, [59]) :: ts) = some (fVl (74 + t), h, (3, [59]) :: ts) ∧ h ≤ 6
  | 0, _ => fP_74 ts
  | 1, _ => fP_75 ts
  | 2, _ => fP_76 ts
  | 3, _ => fP_77 ts
  | t + 4, h => absurd h (by omega)
theorem sRun_f2 (α : aA) (ht : aI α 3 ≤ 4) {G : Nat → Option (aEnv → Int64)} (hG : G 2 = none) {τ : tS} {X1 : sX} {n : Nat} {ts : List Tk} (h : sRun n (τS α τ 3, gS α G 2 3 74) ts X1) : sRun (n + (if aI α 3 = 0 then 0 else 1)) (τ, G) (fmT α 3 14 74 ++ ts) X1 := by
  unfold fmT
  unfold τS gS at h
  by_cases e : aI α 3 = 0
  · rw [if_pos e, if_pos e] at h
    rw [if_pos e, if_pos e]
    exact h
  · rw [if_neg e, if_neg e] at h
    rw [if_neg e, if_neg e]
    obtain ⟨d, h1, h2⟩ := fQ_2 ts (aI α 3 - 1) (by omega)
    refine ⟨_, ts, Or.inr (Or.inr (Or.inr (Or.inl (⟨fTk (74 + (aI α 3 - 1)) ++ (3, [59]) :: ts, _, by simp, h1, rfl, h2, hG, rfl⟩)))), h⟩

theorem fQ_3 (ts : List Tk) : ∀ t, t < 4 → ∃ h, (pLv 6 7 1).2 (fTk (78 + t) ++ (3, [59]) :: ts) = some (fVl (78 + t), h, (3, [59]) :: ts) ∧ h ≤ 6
  | 0, _ => fP_78 ts
  | 1, _ => fP_79 ts
  | 2, _ => fP_80 ts
  | 3, _ => fP_81 ts
  | t + 4, h => absurd h (by omega)
theorem sRun_f3 (α : aA) (ht : aI α 4 ≤ 4) {G : Nat → Option (aEnv → Int64)} (hG : G 3 = none) {τ : tS} {X1 : sX} {n : Nat} {ts : List Tk} (h : sRun n (τS α τ 4, gS α G 3 4 78) ts X1) : sRun (n + (if aI α 4 = 0 then 0 else 1)) (τ, G) (fmT α 4 15 78 ++ ts) X1 := by
  unfold fmT
  unfold τS gS at h
  by_cases e : aI α 4 = 0
  · rw [if_pos e, if_pos e] at h
    rw [if_pos e, if_pos e]
    exact h
  · rw [if_neg e, if_neg e] at h
    rw [if_neg e, if_neg e]
    obtain ⟨d, h1, h2⟩ := fQ_3 ts (aI α 4 - 1) (by omega)
    refine ⟨_, ts, Or.inr (Or.inr (Or.inr (Or.inr (Or.inl (⟨fTk (78 + (aI α 4 - 1)) ++ (3, [59]) :: ts, _, by simp, h1, rfl, h2, hG, rfl⟩))))), h⟩

theorem fQ_1 (ts : List Tk) : ∀ t, t < 4 → ∃ h, (pLv 8 9 1).1 (fTk (82 + t) ++ (3, [59]) :: ts) = some (fVl (82 + t), h, (3, [59]) :: ts) ∧ h ≤ 6
  | 0, _ => fP_82 ts
  | 1, _ => fP_83 ts
  | 2, _ => fP_84 ts
  | 3, _ => fP_85 ts
  | t + 4, h => absurd h (by omega)
theorem sRun_f1 (α : aA) (ht : aI α 5 ≤ 4) {G : Nat → Option (aEnv → Int64)} (hG : G 1 = none) {τ : tS} {X1 : sX} {n : Nat} {ts : List Tk} (h : sRun n (τS α τ 5, gS α G 1 5 82) ts X1) : sRun (n + (if aI α 5 = 0 then 0 else 1)) (τ, G) (fmT α 5 16 82 ++ ts) X1 := by
  unfold fmT
  unfold τS gS at h
  by_cases e : aI α 5 = 0
  · rw [if_pos e, if_pos e] at h
    rw [if_pos e, if_pos e]
    exact h
  · rw [if_neg e, if_neg e] at h
    rw [if_neg e, if_neg e]
    obtain ⟨d, h1, h2⟩ := fQ_1 ts (aI α 5 - 1) (by omega)
    refine ⟨_, ts, Or.inr (Or.inr (Or.inr (Or.inr (Or.inr (Or.inl (⟨fTk (82 + (aI α 5 - 1)) ++ (3, [59]) :: ts, _, by simp, h1, rfl, h2, hG, rfl⟩)))))), h⟩

theorem sRun_nu (α : aA) (h6 : aI α 6 < 120) (h7 : aI α 7 < 30) (h8 : aI α 8 < 101) (τ : tS) (G : Nat → Option (aEnv → Int64)) : sRun 3 (τ, G) (nuT α) (tMore (tNumS (tMore (tNumS (tMore (tNumS τ 0 (aI α 6))) 1 (aI α 7))) 2 (aI α 8)), G) := by
  refine ⟨_, _, Or.inr (Or.inr (Or.inr (Or.inr (Or.inr (Or.inr (Or.inl ⟨sD (aI α 6), rfl, ?_, rfl⟩)))))), ?_⟩
  · rw [sN_sD (by omega)]; omega
  rw [sN_sD (by omega)]
  refine ⟨_, _, Or.inr (Or.inr (Or.inr (Or.inr (Or.inr (Or.inr (Or.inr (Or.inl ⟨sD (aI α 7), rfl, ?_, rfl⟩))))))), ?_⟩
  · rw [sN_sD (by omega)]; omega
  rw [sN_sD (by omega)]
  refine ⟨_, _, Or.inr (Or.inr (Or.inr (Or.inr (Or.inr (Or.inr (Or.inr (Or.inr ⟨sD (aI α 8), rfl, ?_, rfl⟩))))))), ?_⟩
  · rw [sN_sD (by omega)]; omega
  rw [sN_sD (by omega)]
  exact ⟨rfl, rfl⟩
def aNs (α : aA) : Nat := aI α 0 + aI α 1 + (if aI α 2 = 0 then 0 else 1) + (if aI α 3 = 0 then 0 else 1) + (if aI α 4 = 0 then 0 else 1) + (if aI α 5 = 0 then 0 else 1) + 3
theorem gS_ne (α : aA) {G : Nat → Option (aEnv → Int64)} {j q b k : Nat} (h : k ≠ j) : gS α G j q b k = G k := by
  unfold gS
  split
  · rfl
  · exact if_neg h
theorem gS_eq (α : aA) {G : Nat → Option (aEnv → Int64)} {j q b : Nat} (h : G j = none) : gS α G j q b j = if aI α q = 0 then none else some (fVl (b + (aI α q - 1))) := by
  unfold gS
  split
  · exact h
  · exact if_pos rfl
theorem sRun_all {α : aA} (hok : aOk α) : sRun (aNs α) (τ00, fun _ => none) (tkA α) (τA α, aFo α) := by
  obtain ⟨h0, h1, h2, h3, h4, h5, h6, h7, h8, hc, hg, hr⟩ := hok
  have a1 := sRun_nu α h6 h7 h8 (τS α (τS α (τS α (τS α (τQ α (aI α 1)) 2) 3) 4) 5) (aFo α)
  have a2 := sRun_f1 α h5 (G := gS α (gS α (gS α (fun _ => none) 0 2 70) 2 3 74) 3 4 78) (by rw [gS_ne α (by decide), gS_ne α (by decide), gS_ne α (by decide)]) a1
  have a3 := sRun_f3 α h4 (G := gS α (gS α (fun _ => none) 0 2 70) 2 3 74) (by rw [gS_ne α (by decide), gS_ne α (by decide)]) a2
  have a4 := sRun_f2 α h3 (G := gS α (fun _ => none) 0 2 70) (by rw [gS_ne α (by decide)]) a3
  have a5 := sRun_f0 α h2 (G := fun _ => none) rfl a4
  have a6 := sRun_q α hr (fun _ => none) (aI α 1) _ _ h1 a5
  have a7 := sRun_k α hc hg (fun _ => none) (aI α 0) _ _ h0 a6
  have e : aNs α = 3 + (if aI α 5 = 0 then 0 else 1) + (if aI α 4 = 0 then 0 else 1) + (if aI α 3 = 0 then 0 else 1) + (if aI α 2 = 0 then 0 else 1) + aI α 1 + aI α 0 := by unfold aNs; omega
  rw [e]
  exact a7
theorem aNs_lt {α : aA} (hok : aOk α) : aNs α < 80 := by
  obtain ⟨h0, h1, -⟩ := hok
  have h : ∀ x : Nat, (if x = 0 then 0 else 1 : Nat) ≤ 1 := fun x => by split <;> decide
  have a2 := h (aI α 2)
  have a3 := h (aI α 3)
  have a4 := h (aI α 4)
  have a5 := h (aI α 5)
  unfold aNs
  omega
theorem tst_S (α : aA) (τ : tS) (q : Nat) : tst (τS α τ q) = tst τ + (if aI α q = 0 then 0 else 1) := by
  unfold τS; split <;> rfl
theorem tst_A (α : aA) : tst (τA α) = aNs α := by
  show tst (τS α (τS α (τS α (τS α (τQ α (aI α 1)) 2) 3) 4) 5) + 1 + 1 + 1 = _
  rw [tst_S, tst_S, tst_S, tst_S, (τQ_f α (aI α 1)).2.2.1]
  unfold aNs
  omega
/-- the town that is read is the law's -/
theorem τA_f (α : aA) : tnc (τA α) = aI α 0 ∧ tnk (τA α) = aI α 1 ∧ (∀ c, c < aI α 0 → tcl (τA α) c = aCl α c ∧ tgr (τA α) c = aGr α c) ∧ (∀ q, q < aI α 1 → trm (τA α) q = aRo α q) ∧ tfu (τA α) = aI α 6 ∧ tlo (τA α) = aI α 7 ∧ twi (τA α) = aI α 8 := by
  have hs : ∀ τ q, tnc (τS α τ q) = tnc τ ∧ tnk (τS α τ q) = tnk τ ∧ tcl (τS α τ q) = tcl τ ∧ tgr (τS α τ q) = tgr τ ∧ trm (τS α τ q) = trm τ := fun τ q => by
    unfold τS; split <;> exact ⟨rfl, rfl, rfl, rfl, rfl⟩
  obtain ⟨q1, q2, -, q4, q5⟩ := τQ_f α (aI α 1)
  refine ⟨?_, ?_, fun c h => ?_, fun c h => ?_, rfl, rfl, rfl⟩
  · show tnc (τS α (τS α (τS α (τS α (τQ α (aI α 1)) 2) 3) 4) 5) = _
    rw [(hs _ _).1, (hs _ _).1, (hs _ _).1, (hs _ _).1, q1]
  · show tnk (τS α (τS α (τS α (τS α (τQ α (aI α 1)) 2) 3) 4) 5) = _
    rw [(hs _ _).2.1, (hs _ _).2.1, (hs _ _).2.1, (hs _ _).2.1, q2]
  · show tcl (τS α (τS α (τS α (τS α (τQ α (aI α 1)) 2) 3) 4) 5) c = _ ∧ tgr (τS α (τS α (τS α (τS α (τQ α (aI α 1)) 2) 3) 4) 5) c = _
    rw [(hs _ _).2.2.1, (hs _ _).2.2.1, (hs _ _).2.2.1, (hs _ _).2.2.1, (hs _ _).2.2.2.1, (hs _ _).2.2.2.1, (hs _ _).2.2.2.1, (hs _ _).2.2.2.1]
    exact q4 c h
  · show trm (τS α (τS α (τS α (τS α (τQ α (aI α 1)) 2) 3) 4) 5) c = _
    rw [(hs _ _).2.2.2.2, (hs _ _).2.2.2.2, (hs _ _).2.2.2.2, (hs _ _).2.2.2.2]
    exact q5 c h
theorem aFo_f (α : aA) : aFo α 0 = (if aI α 2 = 0 then none else some (fVl (70 + (aI α 2 - 1)))) ∧ aFo α 1 = (if aI α 5 = 0 then none else some (fVl (82 + (aI α 5 - 1)))) ∧ aFo α 2 = (if aI α 3 = 0 then none else some (fVl (74 + (aI α 3 - 1)))) ∧ aFo α 3 = (if aI α 4 = 0 then none else some (fVl (78 + (aI α 4 - 1)))) := by
  unfold aFo
  refine ⟨?_, ?_, ?_, ?_⟩
  · rw [gS_ne α (by decide), gS_ne α (by decide), gS_ne α (by decide), gS_eq α rfl]
  · rw [gS_eq α (by rw [gS_ne α (by decide), gS_ne α (by decide), gS_ne α (by decide)])]
  · rw [gS_ne α (by decide), gS_ne α (by decide), gS_eq α (by rw [gS_ne α (by decide)])]
  · rw [gS_ne α (by decide), gS_eq α (by rw [gS_ne α (by decide), gS_ne α (by decide)])]
/-- what a formula may ask -/
theorem fVl_dep : ∀ j k : Nat, (j = 0 ∧ 70 ≤ k ∧ k < 74) ∨ (j = 1 ∧ 82 ≤ k ∧ k < 86) ∨ (j = 2 ∧ 74 ≤ k ∧ k < 78) ∨ (j = 3 ∧ 78 ≤ k ∧ k < 82) → ∀ e e' : aEnv, (∀ i, aDepB j i = true → e i = e' i) → fVl k e = fVl k e' := by
  intro j k hk e e' h
  have hk2 : (j = 0 ∧ (k = 70 ∨ k = 71 ∨ k = 72 ∨ k = 73)) ∨ (j = 1 ∧ (k = 82 ∨ k = 83 ∨ k = 84 ∨ k = 85)) ∨ (j = 2 ∧ (k = 74 ∨ k = 75 ∨ k = 76 ∨ k = 77)) ∨ (j = 3 ∧ (k = 78 ∨ k = 79 ∨ k = 80 ∨ k = 81)) := by omega
  rcases hk2 with ⟨rfl, q⟩ | ⟨rfl, q⟩ | ⟨rfl, q⟩ | ⟨rfl, q⟩
  · have a0 := h 0 rfl
    have a1 := h 1 rfl
    have a2 := h 2 rfl
    have a3 := h 3 rfl
    have a4 := h 4 rfl
    rcases q with rfl | rfl | rfl | rfl <;> simp only [fVl, a0, a1, a2, a3, a4]
  · have a0 := h 0 rfl
    have a1 := h 1 rfl
    have a8 := h 8 rfl
    have a9 := h 9 rfl
    rcases q with rfl | rfl | rfl | rfl <;> simp only [fVl, a0, a1, a8, a9]
  · have a0 := h 0 rfl
    have a1 := h 1 rfl
    have a2 := h 2 rfl
    have a3 := h 3 rfl
    have a4 := h 4 rfl
    have a5 := h 5 rfl
    rcases q with rfl | rfl | rfl | rfl <;> simp only [fVl, a0, a1, a2, a3, a4, a5]
  · have a0 := h 0 rfl
    have a1 := h 1 rfl
    have a6 := h 6 rfl
    have a7 := h 7 rfl
    rcases q with rfl | rfl | rfl | rfl <;> simp only [fVl, a0, a1, a6, a7]
theorem tkA_len {α : aA} (hok : aOk α) : (tkA α).length ≤ 160 := by
  obtain ⟨h0, h1, h2, h3, h4, h5, -⟩ := hok
  have hk : ∀ i, (tkK α i).length = 7 * i := fun i => by
    induction i with
    | zero => rfl
    | succ i ih => show (tkK α i ++ kidT α i).length = _; rw [List.length_append, ih]; show 7 * i + 7 = _; omega
  have hq : ∀ i, (tkQ α i).length = 5 * i := fun i => by
    induction i with
    | zero => rfl
    | succ i ih => show (tkQ α i ++ klnT α i).length = _; rw [List.length_append, ih]; show 5 * i + 5 = _; omega
  have hf : ∀ k, k < 86 → 70 ≤ k → (fTk k).length ≤ 20 := by decide +kernel
  have hm : ∀ j kw b, aI α j ≤ 4 → 70 ≤ b → b ≤ 82 → (fmT α j kw b).length ≤ 22 := fun j kw b a1 a2 a3 => by
    unfold fmT
    split
    · exact Nat.zero_le _
    · have := hf (b + (aI α j - 1)) (by omega) (by omega)
      rw [List.length_cons, List.length_append]
      show _ + 1 + 1 ≤ 22
      omega
  have e1 := hm 2 6 70 h2 (by decide) (by decide)
  have e2 := hm 3 14 74 h3 (by decide) (by decide)
  have e3 := hm 4 15 78 h4 (by decide) (by decide)
  have e4 := hm 5 16 82 h5 (by decide) (by decide)
  unfold tkA
  simp only [List.length_append, hk, hq]
  have e5 : (nuT α).length = 9 := rfl
  omega
