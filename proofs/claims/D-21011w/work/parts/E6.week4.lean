/-! A WEEK, closed -/
section WKN
variable {F : Nat → Option (aEnv → Int64)} {σ : KS} {gu : Int32}
/-- the fuel that is left before a kiln -/
def wL (F : Nat → Option (aEnv → Int64)) (σ : KS) : Nat → Int32
  | 0 => kFl σ
  | n + 1 => if iI (kI σ 41 n) = -1 ∨ kFull σ n = 0 ∨ wL F σ n < kBurn F σ n then wL F σ n else wL F σ n - kBurn F σ n
/-- a kiln fires -/
def wF (F : Nat → Option (aEnv → Int64)) (σ : KS) (n : Nat) : Prop := ¬ (iI (kI σ 41 n) = -1 ∨ kFull σ n = 0 ∨ wL F σ n < kBurn F σ n)
def wA (F : Nat → Option (aEnv → Int64)) (σ : KS) (n c : Nat) : Prop := ∃ q p, q < n ∧ wF F σ q ∧ kO σ 1 q p = some c
def wT (F : Nat → Option (aEnv → Int64)) (σ : KS) (gu : Int32) (c q p : Nat) : Int32 := kTemp F σ c (kHt σ q gu) (nI p)
def wC (F : Nat → Option (aEnv → Int64)) (σ : KS) (gu : Int32) (c q p : Nat) : Int32 := kCrack F σ c (kHt σ q gu) (nI p)
def wS (F : Nat → Option (aEnv → Int64)) (σ : KS) (gu : Int32) (q p c d : Nat) : Prop := ¬ kStick F σ c (wT F σ gu c q p) d (wT F σ gu d q (p + 1)) (kHt σ q gu) = 0
def wJq (F : Nat → Option (aEnv → Int64)) (σ : KS) (gu : Int32) (q p c i : Nat) : Prop := (kO σ 1 q p = some c ∧ kO σ 1 q (p + 1) = some i ∧ wS F σ gu q p c i) ∨ (kO σ 1 q p = some i ∧ kO σ 1 q (p + 1) = some c ∧ wS F σ gu q p i c)
def wJ (F : Nat → Option (aEnv → Int64)) (σ : KS) (gu : Int32) (n c i : Nat) : Prop := ∃ q p, q < n ∧ wF F σ q ∧ wJq F σ gu q p c i
def WkR (F : Nat → Option (aEnv → Int64)) (σ : KS) (gu : Int32) (n : Nat) (τ : KS) : Prop := iI (kI τ 7 0) = wL F σ n ∧ (∀ q, (q < n ∧ wF F σ q → kI τ 41 q = -1) ∧ (¬ (q < n ∧ wF F σ q) → kI τ 41 q = kI σ 41 q)) ∧ (∀ q p, (q < n ∧ wF F σ q → kO τ 1 q p = none) ∧ (¬ (q < n ∧ wF F σ q) → kO τ 1 q p = kO σ 1 q p)) ∧ (∀ c, wA F σ n c → kO τ 0 c 0 = none ∧ kI τ 33 c = -1) ∧ (∀ c, ¬ wA F σ n c → kO τ 0 c 0 = kO σ 0 c 0 ∧ kI τ 33 c = kI σ 33 c ∧ kI τ 34 c = kI σ 34 c ∧ kI τ 36 c = kI σ 36 c) ∧ (∀ q p c, q < n → wF F σ q → kO σ 1 q p = some c → kI τ 34 c = (wT F σ gu c q p).toInt ∧ kI τ 36 c = (wC F σ gu c q p).toInt) ∧ (∀ c i, i < 32 → (bt (iI (kI τ 35 c)) i = true ↔ bt (iI (kI σ 35 c)) i = true ∨ wJ F σ gu n c i)) ∧ (∀ i, i < 32 → (bt (iI (kI τ 5 0)) i = true ↔ i < n ∧ wF F σ i))
theorem wF_s {n q : Nat} (h : ¬ wF F σ n) : (q < n + 1 ∧ wF F σ q) ↔ (q < n ∧ wF F σ q) := ⟨fun a => ⟨by
  by_cases e : q = n
  · subst e; exact absurd a.2 h
  · omega, a.2⟩, fun a => ⟨by omega, a.2⟩⟩
theorem WkR.no {n : Nat} {τ : KS} (h : WkR F σ gu n τ) (hn : ¬ wF F σ n) : WkR F σ gu (n + 1) τ := by
  obtain ⟨h1, h2, h3, h4, h5, h6, h7, h8⟩ := h
  have hA : ∀ c, wA F σ (n + 1) c ↔ wA F σ n c := fun c => ⟨fun ⟨q, p, a, b, d⟩ => ⟨q, p, ((wF_s hn).mp ⟨a, b⟩).1, b, d⟩, fun ⟨q, p, a, b, d⟩ => ⟨q, p, by omega, b, d⟩⟩
  refine ⟨?_, fun q => ?_, fun q p => ?_, fun c hc => h4 c ((hA c).mp hc), fun c hc => h5 c (fun w => hc ((hA c).mpr w)), fun q p c a b => h6 q p c ((wF_s hn).mp ⟨a, b⟩).1 b, fun c i hi => ?_, fun i hi => ?_⟩
  · rw [h1]
    show _ = (if iI (kI σ 41 n) = -1 ∨ kFull σ n = 0 ∨ wL F σ n < kBurn F σ n then wL F σ n else wL F σ n - kBurn F σ n)
    rw [if_pos (Classical.not_not.mp hn)]
  · rw [wF_s hn]; exact h2 q
  · rw [wF_s hn]; exact h3 q p
  · rw [h7 c i hi]
    exact ⟨fun a => a.imp id (fun ⟨q, p, a, b⟩ => ⟨q, p, by omega, b⟩), fun a => a.imp id (fun ⟨q, p, a, b, d⟩ => ⟨q, p, ((wF_s hn).mp ⟨a, b⟩).1, b, d⟩)⟩
  · rw [h8 i hi, wF_s hn]
theorem kPaid_I (τ : KS) (n : Nat) {f : Nat} (hf : f ≠ 7) (x : Nat) : kI (kPaid F τ n) f x = kI τ f x := by
  unfold kPaid
  rw [kI_kIs, if_neg (fun w => hf w.1)]
theorem WkR.yes (hp : KPl σ) (h8' : kA σ 61 0 ≤ 8) {n : Nat} {τ : KS} (h : WkR F σ gu n τ) (hn3 : n < 32) (hpt : KPl τ) (hA : kA τ = kA σ) (hB : kBq σ τ) (hbr : kBurn F τ n = kBurn F σ n) (hht : kHt τ n gu = kHt σ n gu) (hn : wF F σ n) : WkR F σ gu (n + 1) (kFdS F τ n gu) := by
  obtain ⟨h1, h2, h3, h4, h5, h6, h7, h8⟩ := h
  have hpu : KPl (kPaid F τ n) := KPl_is hpt (by decide) _ _
  have hOu : kO (kPaid F τ n) = kO τ := rfl
  have hAu : kA (kPaid F τ n) = kA σ := hA
  have hO1 : ∀ p, kO (kPaid F τ n) 1 n p = kO σ 1 n p := fun p => (h3 n p).2 (fun w => absurd w.1 (Nat.lt_irrefl n))
  have hBu : kBq σ (kPaid F τ n) := ⟨(kPaid_I τ n (by decide) 0).trans hB.1, fun c => ⟨(kPaid_I τ n (by decide) c).trans (hB.2 c).1, (kPaid_I τ n (by decide) c).trans (hB.2 c).2⟩⟩
  have hT : ∀ p c, kO σ 1 n p = some c → kBT F (kPaid F τ n) n (kHt τ n gu) c p = wT F σ gu c n p ∧ kBK F (kPaid F τ n) n (kHt τ n gu) c p = wC F σ gu c n p := fun p c e => by
    have := kBT_at (F := F) (hh := kHt τ n gu) hpu ((hO1 p).trans e)
    rw [this.1, this.2, hBu.temp, hBu.crack, hht]
    exact ⟨rfl, rfl⟩
  have hroom : ∀ p c, kO σ 1 n p = some c → p < kA σ 25 n := fun p c e => by
    obtain ⟨a, b, d⟩ := (hp.1 n p c).mp e
    obtain ⟨-, p2, e1, e2⟩ := hp.2.1 c n a b
    omega
  obtain ⟨i1, i2, i3, i4, i5, i6⟩ := frN (F := F) (hh := kHt τ n gu) (t := kBT F (kPaid F τ n) n (kHt τ n gu)) (k := kBK F (kPaid F τ n) n (kHt τ n gu)) hpu (q := n) (by rw [hAu]; exact h8') (kA (kPaid F τ n) 25 n) (Nat.le_refl _)
  have hfd : kFdS F τ n gu = kIs (kIs (kFrN F (kPaid F τ n) n (kHt τ n gu) (kBT F (kPaid F τ n) n (kHt τ n gu)) (kBK F (kPaid F τ n) n (kHt τ n gu)) (kA (kPaid F τ n) 25 n)) 41 n (-1)) 5 0 (iI (kI (kIs (kFrN F (kPaid F τ n) n (kHt τ n gu) (kBT F (kPaid F τ n) n (kHt τ n gu)) (kBK F (kPaid F τ n) n (kHt τ n gu)) (kA (kPaid F τ n) 25 n)) 41 n (-1)) 5 0) ||| ((1 : Int32) <<< (nI n &&& 31))).toInt := rfl
  rw [hfd]
  rw [hAu] at i1 i2 i3 i4 i5 i6 ⊢
  generalize kFrN F (kPaid F τ n) n (kHt τ n gu) (kBT F (kPaid F τ n) n (kHt τ n gu)) (kBK F (kPaid F τ n) n (kHt τ n gu)) (kA σ 25 n) = φ at i1 i2 i3 i4 i5 i6
  have gI : ∀ f x, f ≠ 5 → kI (kIs (kIs φ 41 n (-1)) 5 0 (iI (kI (kIs φ 41 n (-1)) 5 0) ||| ((1 : Int32) <<< (nI n &&& 31))).toInt) f x = if f = 41 ∧ x = n then -1 else kI φ f x := fun f x hf => by
    rw [kI_kIs, if_neg (fun w => hf w.1), kI_kIs]
  have g5 : iI (kI (kIs (kIs φ 41 n (-1)) 5 0 (iI (kI (kIs φ 41 n (-1)) 5 0) ||| ((1 : Int32) <<< (nI n &&& 31))).toInt) 5 0) = iI (kI τ 5 0) ||| ((1 : Int32) <<< (nI n &&& 31)) := by
    rw [kI_kIs, if_pos ⟨rfl, rfl⟩, toI, kI_kIs, if_neg (fun w => absurd w.1 (by decide)), i5 5 0 (by decide), kPaid_I τ n (by decide)]
  have gO : kO (kIs (kIs φ 41 n (-1)) 5 0 (iI (kI (kIs φ 41 n (-1)) 5 0) ||| ((1 : Int32) <<< (nI n &&& 31))).toInt) = kO φ := rfl
  generalize kIs (kIs φ 41 n (-1)) 5 0 (iI (kI (kIs φ 41 n (-1)) 5 0) ||| ((1 : Int32) <<< (nI n &&& 31))).toInt = ω at gI g5 gO ⊢
  have hfA : ∀ c, frA (kPaid F τ n) n (kA σ 25 n) c ↔ ∃ p, kO σ 1 n p = some c := fun c => ⟨fun ⟨p, _, e⟩ => ⟨p, (hO1 p).symm.trans e⟩, fun ⟨p, e⟩ => ⟨p, hroom p c e, (hO1 p).trans e⟩⟩
  have hin : ∀ p c, kO σ 1 n p = some c → ¬ wA F σ n c := fun p c e ⟨q, p2, a, b, d⟩ => by
    have e1 := ((hp.1 n p c).mp e).2.1
    have e2 := ((hp.1 q p2 c).mp d).2.1
    rw [e1] at e2
    have := Option.some.inj e2
    omega
  have hAs : ∀ c, wA F σ (n + 1) c ↔ wA F σ n c ∨ ∃ p, kO σ 1 n p = some c := fun c => ⟨fun ⟨q, p, a, b, d⟩ => by
    by_cases e : q = n
    · subst e; exact Or.inr ⟨p, d⟩
    · exact Or.inl ⟨q, p, by omega, b, d⟩, fun w => w.elim (fun ⟨q, p, a, b, d⟩ => ⟨q, p, by omega, b, d⟩) (fun ⟨p, d⟩ => ⟨n, p, by omega, hn, d⟩)⟩
  refine ⟨?_, fun q => ⟨fun w => ?_, fun w => ?_⟩, fun q p => ⟨fun w => ?_, fun w => ?_⟩, fun c hc => ?_, fun c hc => ?_, fun q p c a b d => ?_, fun c i hi => ?_, fun i hi => ?_⟩
  · rw [gI _ _ (by decide), if_neg (fun w => absurd w.1 (by decide)), i5 7 0 (by decide)]
    show iI (kI (kIs τ 7 0 (iI (kI τ 7 0) - kBurn F τ n).toInt) 7 0) = _
    rw [kI_kIs, if_pos ⟨rfl, rfl⟩, toI, h1, hbr]
    exact (if_neg hn).symm
  · rw [gI _ _ (by decide)]
    by_cases e : q = n
    · rw [if_pos ⟨rfl, e⟩]
    · rw [if_neg (fun v => e v.2), i5 41 q (by decide), kPaid_I τ n (by decide)]
      exact (h2 q).1 ⟨by omega, w.2⟩
  · rw [gI _ _ (by decide)]
    have e : q ≠ n := fun e => w ⟨by omega, by rw [e]; exact hn⟩
    rw [if_neg (fun v => e v.2), i5 41 q (by decide), kPaid_I τ n (by decide)]
    exact (h2 q).2 (fun v => w ⟨by omega, v.2⟩)
  · rw [gO]
    by_cases e : q = n
    · by_cases e2 : p < kA σ 25 n
      · exact (i4 q p).1 ⟨e, e2⟩
      · rw [(i4 q p).2 (fun v => e2 v.2), e, hO1]
        cases e3 : kO σ 1 n p with
        | none => rfl
        | some c => exact absurd (hroom p c e3) e2
    · rw [(i4 q p).2 (fun v => e v.1), hOu]
      exact (h3 q p).1 ⟨by omega, w.2⟩
  · rw [gO]
    have e : q ≠ n := fun e => w ⟨by omega, by rw [e]; exact hn⟩
    rw [(i4 q p).2 (fun v => e v.1), hOu]
    exact (h3 q p).2 (fun v => w ⟨by omega, v.2⟩)
  · rw [gO, gI _ _ (by decide), if_neg (fun w => absurd w.1 (by decide))]
    rcases (hAs c).mp hc with w | w
    · by_cases v : frA (kPaid F τ n) n (kA σ 25 n) c
      · exact i1 c v
      · rw [(i2 c v).1, (i2 c v).2.1, hOu, kPaid_I τ n (by decide)]
        exact h4 c w
    · exact i1 c ((hfA c).mpr w)
  · have v : ¬ frA (kPaid F τ n) n (kA σ 25 n) c := fun w => hc ((hAs c).mpr (Or.inr ((hfA c).mp w)))
    have u := h5 c (fun w => hc ((hAs c).mpr (Or.inl w)))
    obtain ⟨a1, a2, a3, a4⟩ := i2 c v
    rw [gO, gI _ _ (by decide), gI _ _ (by decide), gI _ _ (by decide), if_neg (fun w => absurd w.1 (by decide)), if_neg (fun w => absurd w.1 (by decide)), if_neg (fun w => absurd w.1 (by decide)), a1, a2, a3, a4, hOu, kPaid_I τ n (by decide), kPaid_I τ n (by decide), kPaid_I τ n (by decide)]
    exact u
  · rw [gI _ _ (by decide), gI _ _ (by decide), if_neg (fun w => absurd w.1 (by decide)), if_neg (fun w => absurd w.1 (by decide))]
    by_cases e : q = n
    · subst e
      have u := i3 p c (hroom p c d) ((hO1 p).trans d)
      rw [u.1, u.2, (hT p c d).1, (hT p c d).2]
      exact ⟨rfl, rfl⟩
    · have v : ¬ frA (kPaid F τ n) n (kA σ 25 n) c := fun w => by
        obtain ⟨p2, w2⟩ := (hfA c).mp w
        exact hin p2 c w2 ⟨q, p, by omega, b, d⟩
      obtain ⟨a1, a2, a3, a4⟩ := i2 c v
      rw [a3, a4, kPaid_I τ n (by decide), kPaid_I τ n (by decide)]
      exact h6 q p c (by omega) b d
  · rw [gI _ _ (by decide), if_neg (fun w => absurd w.1 (by decide)), i6 c i hi, kPaid_I τ n (by decide), h7 c i hi]
    have hJ : frJ F (kPaid F τ n) n (kHt τ n gu) (kBT F (kPaid F τ n) n (kHt τ n gu)) (kA σ 25 n) c i ↔ ∃ p, wJq F σ gu n p c i := by
      have hS : ∀ p c d, kO σ 1 n p = some c → kO σ 1 n (p + 1) = some d → (frS F (kPaid F τ n) (kHt τ n gu) (kBT F (kPaid F τ n) n (kHt τ n gu)) p c d ↔ wS F σ gu n p c d) := fun p c d e1 e2 => by
        unfold frS wS
        rw [(hT p c e1).1, (hT (p + 1) d e2).1, hBu.stick, hht]
      constructor
      · rintro ⟨p, a, b | b⟩
        · have e1 := (hO1 p).symm.trans b.1
          have e2 := (hO1 (p + 1)).symm.trans b.2.1
          exact ⟨p, Or.inl ⟨e1, e2, (hS p c i e1 e2).mp b.2.2⟩⟩
        · have e1 := (hO1 p).symm.trans b.1
          have e2 := (hO1 (p + 1)).symm.trans b.2.1
          exact ⟨p, Or.inr ⟨e1, e2, (hS p i c e1 e2).mp b.2.2⟩⟩
      · rintro ⟨p, b | b⟩
        · exact ⟨p, hroom p c b.1, Or.inl ⟨(hO1 p).trans b.1, (hO1 (p + 1)).trans b.2.1, (hS p c i b.1 b.2.1).mpr b.2.2⟩⟩
        · exact ⟨p, hroom p i b.1, Or.inr ⟨(hO1 p).trans b.1, (hO1 (p + 1)).trans b.2.1, (hS p i c b.1 b.2.1).mpr b.2.2⟩⟩
    rw [hJ]
    constructor
    · rintro ((a | ⟨q, p, a, b⟩) | ⟨p, a⟩)
      · exact Or.inl a
      · exact Or.inr ⟨q, p, by omega, b⟩
      · exact Or.inr ⟨n, p, by omega, hn, a⟩
    · rintro (a | ⟨q, p, a, b, d⟩)
      · exact Or.inl (Or.inl a)
      · by_cases e : q = n
        · subst e; exact Or.inr ⟨p, d⟩
        · exact Or.inl (Or.inr ⟨q, p, by omega, b, d⟩)
  · rw [g5, b_or, b_one hn3 hi, Bool.or_eq_true, h8 i hi, decide_eq_true_eq]
    constructor
    · rintro (a | a)
      · exact ⟨by omega, a.2⟩
      · subst a; exact ⟨by omega, hn⟩
    · rintro ⟨a, b⟩
      by_cases e : i = n
      · exact Or.inr e
      · exact Or.inl ⟨by omega, b⟩
theorem kWkN_b (σ : KS) (n : Nat) : kBq σ (kWkN F gu σ n) := ⟨kI_kWkN σ (by decide) (by decide) (by decide) (by decide) 0 n, fun c => ⟨kI_kWkN σ (by decide) (by decide) (by decide) (by decide) c n, kI_kWkN σ (by decide) (by decide) (by decide) (by decide) c n⟩⟩
theorem WkR.at {n : Nat} {τ : KS} (h : WkR F σ gu n τ) (hA : kA τ = kA σ) (hB : kBq σ τ) : kI τ 41 n = kI σ 41 n ∧ kFull τ n = kFull σ n ∧ kBurn F τ n = kBurn F σ n ∧ kHt τ n gu = kHt σ n gu := by
  obtain ⟨h1, h2, h3, -⟩ := h
  have e41 : kI τ 41 n = kI σ 41 n := (h2 n).2 (fun w => absurd w.1 (Nat.lt_irrefl n))
  have eO : kO τ 1 n = kO σ 1 n := funext fun p => (h3 n p).2 (fun w => absurd w.1 (Nat.lt_irrefl n))
  have eF : kFull τ n = kFull σ n := by unfold kFull; rw [eO, hA]
  refine ⟨e41, eF, ?_, by unfold kHt; rw [e41]⟩
  have e : ∀ (e0 : aEnv) (z : Int32), eW τ e0 z = eW σ e0 z := fun e0 z => by
    unfold eW
    rw [hB.1]
  unfold kBurn
  rw [e41, eF, hA, e]
theorem wkN (hp : KPl σ) (h8 : kA σ 61 0 ≤ 8) (h3 : kA σ 62 0 ≤ 3) : ∀ n, n ≤ kA σ 62 0 → WkR F σ gu n (kWkN F gu σ n) := by
  intro n
  induction n with
  | zero =>
    intro _
    refine ⟨?_, fun q => ⟨fun w => absurd w.1 (Nat.not_lt_zero q), fun _ => rfl⟩, fun q p => ⟨fun w => absurd w.1 (Nat.not_lt_zero q), fun _ => rfl⟩, fun c ⟨q, p, a, _⟩ => absurd a (Nat.not_lt_zero q), fun c _ => ⟨rfl, rfl, rfl, rfl⟩, fun q p c a => absurd a (Nat.not_lt_zero q), fun c i _ => ⟨Or.inl, fun a => a.elim id (fun ⟨q, p, a, _⟩ => absurd a (Nat.not_lt_zero q))⟩, fun i hi => ?_⟩
    · show iI (kI (kIs (kIs σ 5 0 0) 7 0 (kFl σ).toInt) 7 0) = kFl σ
      rw [kI_kIs, if_pos ⟨rfl, rfl⟩, toI]
    · show bt (iI 0) i = true ↔ _
      rw [show (iI 0 : Int32) = 0 from rfl, b_0]
      exact ⟨fun e => (by cases e), fun e => absurd e.1 (Nat.not_lt_zero i)⟩
  | succ n ih =>
    intro hn
    have h := ih (by omega)
    have hA : kA (kWkN F gu σ n) = kA σ := kA_kWkN σ n
    have hB : kBq σ (kWkN F gu σ n) := kWkN_b σ n
    have hP := (kWkN_P (F := F) (gu := gu) hp n (by omega)).1
    obtain ⟨a1, a2, a3, a4⟩ := h.at hA hB
    show WkR F σ gu (n + 1) (kW1 F gu (kWkN F gu σ n) n)
    unfold kW1
    rw [a1, a2, a3, h.1]
    by_cases hw : wF F σ n
    · rw [if_neg hw]
      exact h.yes hp h8 (by omega) hP hA hB a3 a4 hw
    · rw [if_pos (Classical.not_not.mp hw)]
      exact h.no hw
end WKN
