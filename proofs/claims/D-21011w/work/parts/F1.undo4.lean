/-! UNDO: what was comes back -/
def decMov (n nk f k : Nat) : Decidable (kMov n nk f k) := by unfold kMov; infer_instance
/-- behind an act: what moves has moved, told rows have come -/
def Af (σ1 ρ : KS) (d0 : Nat) : Prop := (∀ f k, f ≠ 63 → f ≠ 12 → f ≠ 11 → f ≠ 73 → kA ρ f k = kA σ1 f k) ∧ (∀ f k, f ≠ 16 → ¬ kMov (kA σ1 61 0) (kA σ1 62 0) f k → kI ρ f k = kI σ1 f k) ∧ (∀ f k j, f ≠ 1 → ¬ (f = 0 ∧ k < kA σ1 61 0 ∧ j = 0) → kO ρ f k j = kO σ1 f k j) ∧ (∀ f k j, f ≠ 2 → kV ρ f k j = kV σ1 f k j) ∧ KTc ρ d0 ∧ kA σ1 63 0 ≤ kA ρ 63 0 ∧ (∀ k, k < kA σ1 63 0 → kV ρ 2 k = kV σ1 2 k) ∧ KV ρ ∧ KPl ρ ∧ kI ρ 4 0 = 0
/-- a state of the same town -/
def Bk (σ σ2 : KS) : Prop := kEy σ2 σ ∧ kA σ2 63 0 = kA σ 63 0 ∧ (∀ k, k < kA σ 63 0 → kV σ2 2 k = kV σ 2 k) ∧ (∀ k j, kV σ2 1 k j = kV σ 1 k j) ∧ kA σ2 0 0 = kA σ 0 0 ∧ kI σ2 0 0 = kI σ 0 0 ∧ kA σ2 64 0 = kA σ 64 0 ∧ kA σ2 74 0 = kA σ 74 0 ∧ kA σ2 14 0 = kA σ 14 0
theorem Bk.refl (σ : KS) : Bk σ σ := ⟨kEy.refl σ, rfl, fun _ _ => rfl, fun _ _ => rfl, rfl, rfl, rfl, rfl, rfl⟩
theorem Bk.trans {σ τ υ : KS} (h : Bk σ τ) (h2 : Bk τ υ) : Bk σ υ := by
  obtain ⟨a1, a2, a3, a4, a5, a6, a7, a8, a9⟩ := h
  obtain ⟨b1, b2, b3, b4, b5, b6, b7, b8, b9⟩ := h2
  exact ⟨b1.trans a1, b2.trans a2, fun k hk => (b3 k (by rw [a2]; exact hk)).trans (a3 k hk), fun k j => (b4 k j).trans (a4 k j), b5.trans a5, b6.trans a6, b7.trans a7, b8.trans a8, b9.trans a9⟩
/-- the moved things of σ, the rest of ρ -/
def kMg (σ ρ : KS) : KS := (fun f k => @ite _ (kMov (kA ρ 61 0) (kA ρ 62 0) f k) (decMov _ _ f k) (kI σ f k) (kI ρ f k), ρ.2.1, fun f k j => if f = 1 ∨ (f = 0 ∧ k < kA ρ 61 0 ∧ j = 0) then kO σ f k j else kO ρ f k j, ρ.2.2.2.1, ρ.2.2.2.2)
theorem kMg_I {σ ρ : KS} {f k : Nat} (h : kMov (kA ρ 61 0) (kA ρ 62 0) f k) : kI (kMg σ ρ) f k = kI σ f k := if_pos h
theorem kMg_N {σ ρ : KS} {f k : Nat} (h : ¬ kMov (kA ρ 61 0) (kA ρ 62 0) f k) : kI (kMg σ ρ) f k = kI ρ f k := if_neg h
theorem kMg_uc (σ ρ : KS) : kUc (kMg σ ρ) ρ := by
  refine ⟨rfl, fun f k h => (kMg_N (σ := σ) (ρ := ρ) h).symm, fun f k j h1 h2 => ?_, rfl, rfl⟩
  exact (if_neg (fun w => w.elim h1 h2)).symm
theorem kWf_eq {σ τ : KS} {n : Nat} (h : ∀ c, c < n → kO τ 0 c 0 = kO σ 0 c 0 ∧ kI τ 33 c = kI σ 33 c ∧ kI τ 34 c = kI σ 34 c ∧ kI τ 35 c = kI σ 35 c ∧ kI τ 36 c = kI σ 36 c) : kWf τ n = kWf σ n := by
  funext j
  unfold kWf
  by_cases hj : j < 5 * n
  · rw [if_pos hj, if_pos hj]
    obtain ⟨a, b, c, d, e⟩ := h (j / 5) (by omega)
    unfold kWas
    have hk : kKil τ (j / 5) = kKil σ (j / 5) := by unfold kKil; rw [a]
    rw [b, c, d, e, hk]
  · rw [if_neg hj, if_neg hj]
theorem kHf_eq {σ τ : KS} {n : Nat} (h : ∀ q, q < n → kI τ 41 q = kI σ 41 q) : kHf τ n = kHf σ n := by
  funext j
  unfold kHf
  by_cases hj : j < n
  · rw [if_pos hj, if_pos hj, h j hj]
  · rw [if_neg hj, if_neg hj]
theorem mv33 {n nk f c : Nat} (h1 : 33 ≤ f ∧ f ≤ 36) (h : c < n) : kMov n nk f c := kMov_c h1.1 h1.2 h
theorem mv41 {n nk q : Nat} (h : q < nk) : kMov n nk 41 q := Or.inr (Or.inr (Or.inr (Or.inr (Or.inr ⟨rfl, h⟩))))
theorem kPop_W {σ : KS} (h : KW σ) : KW (kPop σ) := by
  obtain ⟨a, b, c, d, e, f⟩ := h
  refine ⟨a, b, fun s h1 h2 => ?_, d, e, f⟩
  have := c s h1 h2
  show (if s = 65 ∧ 0 = 0 then kA σ 65 0 - 1 else kA σ s 0) ≤ (if s + 10 = 65 ∧ 0 = 0 then kA σ 65 0 - 1 else kA σ (s + 10) 0) ∧ (if s + 10 = 65 ∧ 0 = 0 then kA σ 65 0 - 1 else kA σ (s + 10) 0) < 1048576
  rw [if_neg (show ¬ (s + 10 = 65 ∧ 0 = 0) from fun w => by omega)]
  by_cases e5 : s = 65
  · subst e5
    rw [if_pos ⟨rfl, rfl⟩]
    omega
  · rw [if_neg (fun w => e5 w.1)]
    exact this
theorem m_undo {l : Launch} {s0 : State} {D : va_G} (h0 : x0 l s0 D) {σ σ1 : KS} (ρ : KS) (gF : xG) {F : Nat → Option (aEnv → Int64)} {d0 : Nat} (hG : KSt gF F d0 σ) (hFo : KFo s0 gF d0) (hk : kKp σ σ1 d0) (hA : Af σ1 ρ d0) : xMet l s0 D yX2_undo cX2_undo 1 (some .boolean) (xr 14 0 0 500) [.ref (kA ρ 0 0)] (kmix ρ gF) (fun r g1 => ∃ σ2, r = some (.int 1) ∧ g1 = kmix σ2 gF ∧ KSt gF F d0 σ2 ∧ Bk σ σ2 ∧ kL σ2 = kL ρ) := by
  obtain ⟨hF, hv, hp, hN, hR, hT, hAc, h7, h4⟩ := hG
  obtain ⟨A1, A2, A3, A4, A5, A6, A7, A8, A9, A10⟩ := hA
  obtain ⟨c1, c2, c3, c4, c5, c6, c7, c8, c9, c10⟩ := hk.acts
  have e65 : kA ρ 65 0 = kA σ1 65 0 := A1 65 0 (by decide) (by decide) (by decide) (by decide)
  have e61 : kA ρ 61 0 = kA σ 61 0 := (A1 61 0 (by decide) (by decide) (by decide) (by decide)).trans (hk.A rfl 0)
  have e62 : kA ρ 62 0 = kA σ 62 0 := (A1 62 0 (by decide) (by decide) (by decide) (by decide)).trans (hk.A rfl 0)
  have e25 : ∀ q, kA ρ 25 q = kA σ 25 q := fun q => (A1 25 q (by decide) (by decide) (by decide) (by decide)).trans (hk.A rfl q)
  have e66 : ∀ i, kA ρ 66 i = kA σ1 66 i := fun i => A1 66 i (by decide) (by decide) (by decide) (by decide)
  have hn21 : ∀ k, ¬ kMov (kA σ1 61 0) (kA σ1 62 0) 21 k := fun k w => by unfold kMov at w; omega
  have hn22 : ∀ k, ¬ kMov (kA σ1 61 0) (kA σ1 62 0) 22 k := fun k w => by unfold kMov at w; omega
  have w5 : (fun j => iI (kV ρ 5 (kA ρ 65 0 - 1) j)) = kWf σ (kA σ 61 0) := by
    funext j
    rw [e65, A4 5 _ _ (by decide)]
    exact c9 j
  have w6 : (fun j => iI (kV ρ 6 (kA ρ 65 0 - 1) j)) = kHf σ (kA σ 62 0) := by
    funext j
    rw [e65, A4 6 _ _ (by decide)]
    exact c10 j
  have u21 : kI ρ 21 (kA ρ 65 0 - 1) = kI σ 3 0 := by rw [e65, A2 21 _ (by decide) (hn21 _)]; exact c7
  have u22 : kI ρ 22 (kA ρ 65 0 - 1) = kI σ 7 0 := by rw [e65, A2 22 _ (by decide) (hn22 _)]; exact c8
  have u66 : kA ρ 66 (kA ρ 65 0 - 1) = kA σ 63 0 := by rw [e65, e66]; exact c5
  have u76 : kA ρ 76 (kA ρ 65 0 - 1) = (if kA σ 63 0 = 0 then 0 else 10) := by rw [e65, A1 76 _ (by decide) (by decide) (by decide) (by decide)]; exact c6
  have hKR : KR ρ := by
    have h2 := hk.Rr hR
    refine ⟨(A1 60 0 (by decide) (by decide) (by decide) (by decide)).trans h2.1, fun i hi => ?_⟩
    rw [e66]
    exact Nat.le_trans (h2.2 i (by rw [← e65]; exact hi)) A6
  have hm : kA σ1 63 0 = kA σ 63 0 := hk.A rfl 0
  refine (m_X2_undo h0 ρ gF A8 hKR hFo.n48 (by rw [e65]; exact c1) (by rw [u66, u76]; split <;> omega) (by rw [w5, e61, e62]; exact kWok_kWf hv.1 hp)).post ?_
  rintro r g1 ⟨rfl, hg⟩
  rw [w5, w6, u21, u22, u66] at hg
  -- what is brought back
  have p61 : kA (kPop ρ) 61 0 = kA σ 61 0 := e61
  have p62 : kA (kPop ρ) 62 0 = kA σ 62 0 := e62
  have gI : ∀ f c, 33 ≤ f ∧ f ≤ 36 → c < kA σ 61 0 → kI (kMg σ (kPop ρ)) f c = kI σ f c := fun f c hf hc => kMg_I (mv33 hf (by rw [p61]; exact hc))
  have g41 : ∀ q, q < kA σ 62 0 → kI (kMg σ (kPop ρ)) 41 q = kI σ 41 q := fun q hq => kMg_I (mv41 (by rw [p62]; exact hq))
  have gO0 : ∀ c, c < kA σ 61 0 → kO (kMg σ (kPop ρ)) 0 c 0 = kO σ 0 c 0 := fun c hc => if_pos (Or.inr ⟨rfl, by rw [p61]; exact hc, rfl⟩)
  have gO1 : kO (kMg σ (kPop ρ)) 1 = kO σ 1 := funext fun q => funext fun p => (show (if (1 : Nat) = 1 ∨ ((1 : Nat) = 0 ∧ q < kA (kPop ρ) 61 0 ∧ p = 0) then kO σ 1 q p else kO ρ 1 q p) = kO σ 1 q p from if_pos (Or.inl rfl))
  have gA : kA (kMg σ (kPop ρ)) = kA (kPop ρ) := rfl
  have hW' : KW (kMg σ (kPop ρ)) := (kPop_W A8.1).of rfl (fun c q hc e => by
    rw [p61] at hc
    rw [gO0 c hc] at e
    rw [p62]
    exact hv.1.2.2.2.2.1 c q hc e) (fun q p c hq e => by
    rw [gO1] at e
    rw [p61]
    exact ((hp.1 q p c).mp e).1)
  have hP' : KPl (kMg σ (kPop ρ)) := by
    refine ⟨fun q p c => ?_, fun c q hc hq => ?_, fun c hc hq => ?_⟩
    · rw [gO1, gA, p61]
      by_cases hc : c < kA σ 61 0
      · rw [gO0 c hc, gI 33 c (by decide) hc]; exact hp.1 q p c
      · exact ⟨fun e => absurd ((hp.1 q p c).mp e).1 hc, fun e => absurd e.1 hc⟩
    · rw [gA, p61] at hc
      rw [gO0 c hc] at hq
      rw [gA, p62, gI 33 c (by decide) hc, show kA (kPop ρ) 25 q = kA ρ 25 q from rfl, e25]
      exact hp.2.1 c q hc hq
    · rw [gA, p61] at hc
      rw [gO0 c hc] at hq
      rw [gI 33 c (by decide) hc]
      exact hp.2.2 c hc hq
  have hN' : KNb (kMg σ (kPop ρ)) := by
    refine ⟨fun c hc => ?_, fun q hq => ?_⟩
    · rw [gA, p61] at hc
      rw [gI 34 c (by decide) hc, gI 35 c (by decide) hc, gI 36 c (by decide) hc]
      exact hN.1 c hc
    · rw [gA, p62] at hq
      rw [g41 q hq]; exact hN.2 q hq
  have hb := kBack_eq (kMg_uc σ (kPop ρ)) hW' hP' A9 hN'
  rw [gA, p61, p62, kWf_eq (σ := σ) (fun c hc => ⟨gO0 c hc, gI 33 c (by decide) hc, gI 34 c (by decide) hc, gI 35 c (by decide) hc, gI 36 c (by decide) hc⟩), kHf_eq (σ := σ) g41, kMg_I (f := 3) (k := 0) (Or.inl ⟨rfl, rfl⟩), kMg_I (f := 7) (k := 0) (Or.inr (Or.inr (Or.inr (Or.inl ⟨rfl, rfl⟩))))] at hb
  rw [hb] at hg
  have hI : ∀ f k, f ≠ 4 → f ≠ 5 → f ≠ 16 → kI (kUn (kIs (kIs (kMg σ (kPop ρ)) 4 0 (kI (kPop ρ) 4 0)) 5 0 (kI (kPop ρ) 5 0)) (kA σ 63 0)) f k = kI (kMg σ (kPop ρ)) f k := fun f k h4 h5 h16 => by
    show kI (kIs (kAs (kIs (kIs (kMg σ (kPop ρ)) 4 0 (kI (kPop ρ) 4 0)) 5 0 (kI (kPop ρ) 5 0)) 60 0 (kA σ 63 0)) 16 0 _) f k = _
    rw [kI_kIs, if_neg (fun w => h16 w.1)]
    show kI (kIs (kIs (kMg σ (kPop ρ)) 4 0 (kI (kPop ρ) 4 0)) 5 0 (kI (kPop ρ) 5 0)) f k = _
    rw [kI_kIs, if_neg (fun w => h5 w.1), kI_kIs, if_neg (fun w => h4 w.1)]
  have hA2 : ∀ f k, kA (kUn (kIs (kIs (kMg σ (kPop ρ)) 4 0 (kI (kPop ρ) 4 0)) 5 0 (kI (kPop ρ) 5 0)) (kA σ 63 0)) f k = if f = 60 ∧ k = 0 then 0 else if f = 63 ∧ k = 0 then kA σ 63 0 else if f = 60 ∧ k = 0 then kA σ 63 0 else kA (kPop ρ) f k := fun f k => rfl
  have hO2 : kO (kUn (kIs (kIs (kMg σ (kPop ρ)) 4 0 (kI (kPop ρ) 4 0)) 5 0 (kI (kPop ρ) 5 0)) (kA σ 63 0)) = kO (kMg σ (kPop ρ)) := rfl
  have hV2 : kV (kUn (kIs (kIs (kMg σ (kPop ρ)) 4 0 (kI (kPop ρ) 4 0)) 5 0 (kI (kPop ρ) 5 0)) (kA σ 63 0)) = kV ρ := rfl
  have hL2 : kL (kUn (kIs (kIs (kMg σ (kPop ρ)) 4 0 (kI (kPop ρ) 4 0)) 5 0 (kI (kPop ρ) 5 0)) (kA σ 63 0)) = kL ρ := rfl
  have hI4 : kI (kUn (kIs (kIs (kMg σ (kPop ρ)) 4 0 (kI (kPop ρ) 4 0)) 5 0 (kI (kPop ρ) 5 0)) (kA σ 63 0)) 4 0 = kI ρ 4 0 := rfl
  generalize kUn (kIs (kIs (kMg σ (kPop ρ)) 4 0 (kI (kPop ρ) 4 0)) 5 0 (kI (kPop ρ) 5 0)) (kA σ 63 0) = σ2 at hg hI hA2 hO2 hV2 hL2 hI4
  have hA3 : ∀ f k, f ≠ 60 → f ≠ 63 → f ≠ 65 → kA σ2 f k = kA ρ f k := fun f k a b c => by
    rw [hA2, if_neg (fun w => a w.1), if_neg (fun w => b w.1), if_neg (fun w => a w.1)]
    show (if f = 65 ∧ k = 0 then kA ρ 65 0 - 1 else kA ρ f k) = _
    rw [if_neg (fun w => c w.1)]
  have h65 : kA σ2 65 0 = kA ρ 65 0 - 1 := by rw [hA2]; rfl
  have h63 : kA σ2 63 0 = kA σ 63 0 := by rw [hA2]; rfl
  have h60 : kA σ2 60 0 = 0 := by rw [hA2]; rfl
  have k61 : kA σ2 61 0 = kA σ 61 0 := (hA3 61 0 (by decide) (by decide) (by decide)).trans e61
  have k62 : kA σ2 62 0 = kA σ 62 0 := (hA3 62 0 (by decide) (by decide) (by decide)).trans e62
  have k25 : ∀ q, kA σ2 25 q = kA σ 25 q := fun q => (hA3 25 q (by decide) (by decide) (by decide)).trans (e25 q)
  have hcar : ∀ f k, kRl f = true → kI σ2 f k = kI σ f k := fun f k hf => by
    have f4 : f ≠ 4 := fun e => by subst e; cases hf
    have f5 : f ≠ 5 := fun e => by subst e; cases hf
    have f16 : f ≠ 16 := fun e => by subst e; cases hf
    rw [hI f k f4 f5 f16]
    by_cases hm2 : kMov (kA (kPop ρ) 61 0) (kA (kPop ρ) 62 0) f k
    · exact kMg_I hm2
    · rw [kMg_N hm2]
      have hfI : kfI f = true := kRl_I f hf
      have f18 : f ≠ 18 := fun e => by subst e; cases hf
      show (if f = 18 ∧ k = 0 then kI ρ 18 0 + 1 else kI ρ f k) = _
      rw [if_neg (fun w => f18 w.1), A2 f k f16 (by rw [hk.A rfl, hk.A rfl]; rw [p61, p62] at hm2; exact hm2)]
      exact hk.I hfI k
  have hO3 : kO σ2 = kO σ := by
    rw [hO2]
    funext f k j
    show (if f = 1 ∨ (f = 0 ∧ k < kA (kPop ρ) 61 0 ∧ j = 0) then kO σ f k j else kO ρ f k j) = _
    by_cases w : f = 1 ∨ (f = 0 ∧ k < kA (kPop ρ) 61 0 ∧ j = 0)
    · rw [if_pos w]
    · rw [if_neg w, A3 f k j (fun v => w (Or.inl v)) (fun v => w (Or.inr (by rw [p61]; rw [hk.A rfl] at v; exact v))), hk.O]
  have hEy : kEy σ2 σ := ⟨hcar, hO3, funext k25, k61, k62⟩
  have hcap : kA ρ 75 0 = kA σ1 75 0 := A1 75 0 (by decide) (by decide) (by decide) (by decide)
  have hW2 : KW σ2 := by
    obtain ⟨a1, a2, a3, a4, a5, a6⟩ := hv.1
    refine ⟨by rw [k61]; exact a1, by rw [k62]; exact a2, fun s s1 s2 => ?_, fun q hq => by rw [k25]; exact a4 q (by rw [← k62]; exact hq), fun c q hc e => by rw [hO3] at e; rw [k62]; exact a5 c q (by rw [← k61]; exact hc) e, fun q p c hq e => by rw [hO3] at e; rw [k61]; exact a6 q p c (by rw [← k62]; exact hq) e⟩
    have hs := A8.1.2.2.1 s s1 s2
    rw [hA3 (s + 10) 0 (by omega) (by omega) (by omega)]
    by_cases e63 : s = 63
    · subst e63; rw [h63]; exact ⟨by rw [← hm]; omega, hs.2⟩
    · by_cases e65' : s = 65
      · subst e65'; rw [h65]; exact ⟨by omega, hs.2⟩
      · rw [hA3 s 0 (by omega) e63 e65']; exact hs
  refine ⟨σ2, rfl, hg, ⟨kF_on hF (fun j => by rw [hO3]), ⟨hW2, fun c q hc e => ?_⟩, ?_, ?_, ⟨h60, fun i hi => ?_⟩, ?_, ⟨?_, Or.inr ⟨?_, ?_⟩⟩, by rw [h63]; exact h7, by rw [hI4]; exact A10⟩, ⟨hEy, h63, fun k hk2 => ?_, fun k j => ?_, ?_, ?_, ?_, ?_, ?_⟩, hL2⟩
  · rw [hcar 33 c rfl]
    rw [hO3] at e
    exact hv.2 c q (by rw [← k61]; exact hc) e
  · refine ⟨fun q p c => ?_, fun c q hc hq => ?_, fun c hc hq => ?_⟩
    · rw [hO3, k61, hcar 33 c rfl]; exact hp.1 q p c
    · rw [k62, k25, hcar 33 c rfl]; rw [hO3] at hq; exact hp.2.1 c q (by rw [← k61]; exact hc) hq
    · rw [hcar 33 c rfl]; rw [hO3] at hq; exact hp.2.2 c (by rw [← k61]; exact hc) hq
  · refine ⟨fun c hc => ?_, fun q hq => ?_⟩
    · rw [hcar 34 c rfl, hcar 35 c rfl, hcar 36 c rfl]; exact hN.1 c (by rw [← k61]; exact hc)
    · rw [hcar 41 q rfl]; exact hN.2 q (by rw [← k62]; exact hq)
  · rw [h65, e65] at hi
    rw [hA3 66 i (by decide) (by decide) (by decide), h63, e66, ← hm]
    exact (hk.Rr hR).2 i (by omega)
  · have e73 := hA3 73 0 (by decide) (by decide) (by decide)
    have e11 := hA3 11 0 (by decide) (by decide) (by decide)
    unfold KTc
    rw [e73, e11, h63]
    rcases A5 with ⟨a, b, c⟩ | ⟨a, b⟩
    · exact Or.inl ⟨a, by omega, c⟩
    · exact Or.inr ⟨a, by omega⟩
  · rw [h65, e65]; omega
  · rw [hA3 75 0 (by decide) (by decide) (by decide), hcap]; exact c3
  · rw [hA3 75 0 (by decide) (by decide) (by decide), hcap, h65, e65]; omega
  · rw [hV2, A7 k (by rw [hm]; exact hk2)]
    funext j
    exact hk.V rfl k j
  · rw [hV2, A4 1 k j (by decide)]; exact hk.V rfl k j
  · rw [hA3 0 0 (by decide) (by decide) (by decide), A1 0 0 (by decide) (by decide) (by decide) (by decide)]; exact hk.A rfl 0
  · rw [hI 0 0 (by decide) (by decide) (by decide), kMg_N (fun w => by unfold kMov at w; omega)]
    show (if (0 : Nat) = 18 ∧ (0 : Nat) = 0 then kI ρ 18 0 + 1 else kI ρ 0 0) = _
    rw [if_neg (fun w => absurd w.1 (by decide)), A2 0 0 (by decide) (fun w => by unfold kMov at w; omega)]
    exact hk.I rfl 0
  · rw [hA3 64 0 (by decide) (by decide) (by decide), A1 64 0 (by decide) (by decide) (by decide) (by decide)]; exact hk.A rfl 0
  · rw [hA3 74 0 (by decide) (by decide) (by decide), A1 74 0 (by decide) (by decide) (by decide) (by decide)]; exact hk.A rfl 0
  · rw [hA3 14 0 (by decide) (by decide) (by decide), A1 14 0 (by decide) (by decide) (by decide) (by decide)]; exact hk.A rfl 0
