/-! WHAT IS BROUGHT BACK: plain laws -/
/-- who lies where: the two tables say the same -/
def KPl (σ : KS) : Prop := (∀ q p c, kO σ 1 q p = some c ↔ (c < kA σ 61 0 ∧ kO σ 0 c 0 = some q ∧ kI σ 33 c = (p : Int))) ∧ (∀ c q, c < kA σ 61 0 → kO σ 0 c 0 = some q → q < kA σ 62 0 ∧ ∃ p : Nat, p < kA σ 25 q ∧ kI σ 33 c = p) ∧ (∀ c, c < kA σ 61 0 → kO σ 0 c 0 = none → kI σ 33 c = -1)
/-- the numbers of children and kilns -/
def KNb (σ : KS) : Prop := (∀ c, c < kA σ 61 0 → (-1 ≤ kI σ 34 c ∧ kI σ 34 c ≤ 99) ∧ (0 ≤ kI σ 35 c ∧ kI σ 35 c < 256) ∧ (kI σ 36 c = 0 ∨ kI σ 36 c = 1)) ∧ (∀ q, q < kA σ 62 0 → -1 ≤ kI σ 41 q ∧ kI σ 41 q ≤ 20)
def kMov (n nk f k : Nat) : Prop := (f = 3 ∧ k = 0) ∨ (f = 4 ∧ k = 0) ∨ (f = 5 ∧ k = 0) ∨ (f = 7 ∧ k = 0) ∨ (33 ≤ f ∧ f ≤ 36 ∧ k < n) ∨ (f = 41 ∧ k < nk)
/-- nothing has changed but what moves -/
def kUc (σ τ : KS) : Prop := kA τ = kA σ ∧ (∀ f k, ¬ kMov (kA σ 61 0) (kA σ 62 0) f k → kI τ f k = kI σ f k) ∧ (∀ f k j, f ≠ 1 → ¬ (f = 0 ∧ k < kA σ 61 0 ∧ j = 0) → kO τ f k j = kO σ f k j) ∧ kV τ = kV σ ∧ kL τ = kL σ
theorem kUc.refl (σ : KS) : kUc σ σ := ⟨rfl, fun _ _ _ => rfl, fun _ _ _ _ _ => rfl, rfl, rfl⟩
theorem kUc.trans {σ τ υ : KS} (h : kUc σ τ) (h2 : kUc τ υ) : kUc σ υ := by
  obtain ⟨a1, a2, a3, a4, a5⟩ := h
  obtain ⟨b1, b2, b3, b4, b5⟩ := h2
  rw [a1] at b2 b3
  exact ⟨b1.trans a1, fun f k q => (b2 f k q).trans (a2 f k q), fun f k j q1 q2 => (b3 f k j q1 q2).trans (a3 f k j q1 q2), b4.trans a4, b5.trans a5⟩
theorem kUc.is (σ : KS) {f k : Nat} (z : Int) (h : kMov (kA σ 61 0) (kA σ 62 0) f k) : kUc σ (kIs σ f k z) := ⟨rfl, fun f' k' q => by rw [kI_kIs, if_neg (fun e => q (by rw [e.1, e.2]; exact h))], fun _ _ _ _ _ => rfl, rfl, rfl⟩
theorem kUc.os0 (σ : KS) {k : Nat} (v : Option Nat) (h : k < kA σ 61 0) : kUc σ (kOs σ 0 k 0 v) := ⟨rfl, fun _ _ _ => rfl, fun f k' j q1 q2 => by rw [kO_kOs, if_neg (fun e => q2 (by rw [e.1, e.2.1, e.2.2]; exact ⟨rfl, h, rfl⟩))], rfl, rfl⟩
theorem kUc.os1 (σ : KS) {k j : Nat} (v : Option Nat) : kUc σ (kOs σ 1 k j v) := ⟨rfl, fun _ _ _ => rfl, fun f k' j' q1 q2 => by rw [kO_kOs, if_neg (fun e => q1 e.1)], rfl, rfl⟩
theorem kUc.go (σ : KS) {c : Nat} (h : c < kA σ 61 0) : kUc σ (kGo σ c) := by
  unfold kGo
  split
  · exact (kUc.os0 σ none h).trans (kUc.is _ _ (Or.inr (Or.inr (Or.inr (Or.inr (Or.inl ⟨by decide, by decide, h⟩))))))
  · exact ((kUc.os1 σ none).trans (kUc.os0 _ none h)).trans (kUc.is _ _ (Or.inr (Or.inr (Or.inr (Or.inr (Or.inl ⟨by decide, by decide, h⟩))))))
section KBA
variable {σ τ : KS}
/-- all out -/
theorem kOutN_all (hp : KPl τ) : ∀ m, m ≤ kA τ 61 0 → (∀ c j, kO (kOutN τ m) 0 c j = if c < m ∧ j = 0 then none else kO τ 0 c j) ∧ (∀ c, kI (kOutN τ m) 33 c = if c < m then -1 else kI τ 33 c) ∧ (∀ f c, f ≠ 33 → kI (kOutN τ m) f c = kI τ f c) ∧ (∀ q p c, kO (kOutN τ m) 1 q p = some c ↔ kO τ 1 q p = some c ∧ m ≤ c) ∧ (∀ f k j, 2 ≤ f → kO (kOutN τ m) f k j = kO τ f k j) ∧ kV (kOutN τ m) = kV τ ∧ kL (kOutN τ m) = kL τ := by
  intro m
  induction m with
  | zero =>
    intro _
    refine ⟨fun c j => ?_, fun c => ?_, fun f c _ => rfl, fun q p c => ⟨fun h => ⟨h, Nat.zero_le _⟩, fun h => h.1⟩, fun f k j _ => rfl, rfl, rfl⟩
    · rw [if_neg (fun q => Nat.not_lt_zero c q.1)]; rfl
    · rw [if_neg (Nat.not_lt_zero c)]; rfl
  | succ m ih =>
    intro hm
    obtain ⟨i1, i2, i3, i4, i5, i6, i7⟩ := ih (by omega)
    have hO : kO (kOutN τ m) 0 m 0 = kO τ 0 m 0 := by rw [i1, if_neg (fun q => Nat.lt_irrefl m q.1)]
    have hI : kI (kOutN τ m) 33 m = kI τ 33 m := by rw [i2, if_neg (Nat.lt_irrefl m)]
    show (∀ c j, kO (kGo (kOutN τ m) m) 0 c j = _) ∧ (∀ c, kI (kGo (kOutN τ m) m) 33 c = _) ∧ (∀ f c, f ≠ 33 → kI (kGo (kOutN τ m) m) f c = _) ∧ (∀ q p c, kO (kGo (kOutN τ m) m) 1 q p = some c ↔ _) ∧ (∀ f k j, 2 ≤ f → kO (kGo (kOutN τ m) m) f k j = _) ∧ kV (kGo (kOutN τ m) m) = _ ∧ kL (kGo (kOutN τ m) m) = _
    unfold kGo
    rw [hO]
    cases hk : kO τ 0 m 0 with
    | none =>
      dsimp only
      refine ⟨fun c j => ?_, fun c => ?_, fun f c hf => ?_, fun q p c => ?_, fun f k j hf => ?_, i6, i7⟩
      · rw [kO_kIs, kO_kOs, i1]
        by_cases e : c = m ∧ j = 0
        · rw [if_pos ⟨rfl, e⟩, if_pos (by omega)]
        · rw [if_neg (fun q => e q.2)]
          by_cases e2 : c < m ∧ j = 0
          · rw [if_pos e2, if_pos (by omega)]
          · rw [if_neg e2, if_neg (by omega)]
      · rw [kI_kIs, kI_kOs, i2]
        by_cases e : c = m
        · rw [if_pos ⟨rfl, e⟩, if_pos (by omega)]
        · rw [if_neg (fun q => e q.2)]
          by_cases e2 : c < m
          · rw [if_pos e2, if_pos (by omega)]
          · rw [if_neg e2, if_neg (by omega)]
      · rw [kI_kIs, kI_kOs, if_neg (fun q => hf q.1), i3 f c hf]
      · rw [kO_kIs, kO_kOs, if_neg (fun q => absurd q.1 (by decide)), i4]
        constructor
        · intro ⟨a, b⟩
          refine ⟨a, ?_⟩
          rcases Nat.lt_or_eq_of_le b with q | q
          · exact q
          · subst q
            have := ((hp.1 _ _ _).mp a).2.1
            rw [hk] at this; cases this
        · intro ⟨a, b⟩; exact ⟨a, by omega⟩
      · rw [kO_kIs, kO_kOs, if_neg (fun q => by omega), i5 f k j hf]
    | some q0 =>
      obtain ⟨hq0, p0, hp0, hp1⟩ := hp.2.1 m q0 (by omega) hk
      have hpn : (kI (kOutN τ m) 33 m).toNat = p0 := by rw [hI, hp1]; rfl
      have hat : kO τ 1 q0 p0 = some m := (hp.1 _ _ _).mpr ⟨by omega, hk, hp1⟩
      dsimp only
      rw [hpn]
      refine ⟨fun c j => ?_, fun c => ?_, fun f c hf => ?_, fun q p c => ?_, fun f k j hf => ?_, i6, i7⟩
      · rw [kO_kIs, kO_kOs]
        by_cases e : c = m ∧ j = 0
        · rw [if_pos ⟨rfl, e⟩, if_pos (by omega)]
        · rw [if_neg (fun q => e q.2), kO_kOs, if_neg (fun q => absurd q.1 (by decide)), i1]
          by_cases e2 : c < m ∧ j = 0
          · rw [if_pos e2, if_pos (by omega)]
          · rw [if_neg e2, if_neg (by omega)]
      · rw [kI_kIs, kI_kOs, kI_kOs, i2]
        by_cases e : c = m
        · rw [if_pos ⟨rfl, e⟩, if_pos (by omega)]
        · rw [if_neg (fun q => e q.2)]
          by_cases e2 : c < m
          · rw [if_pos e2, if_pos (by omega)]
          · rw [if_neg e2, if_neg (by omega)]
      · rw [kI_kIs, kI_kOs, kI_kOs, if_neg (fun q => hf q.1), i3 f c hf]
      · rw [kO_kIs, kO_kOs, if_neg (fun q => absurd q.1 (by decide)), kO_kOs]
        by_cases e : q = q0 ∧ p = p0
        · rw [if_pos ⟨rfl, e⟩]
          obtain ⟨rfl, rfl⟩ := e
          constructor
          · intro h; cases h
          · intro ⟨a, b⟩
            rw [hat] at a; cases a; omega
        · rw [if_neg (fun q => e q.2), i4]
          constructor
          · intro ⟨a, b⟩
            refine ⟨a, ?_⟩
            rcases Nat.lt_or_eq_of_le b with r | r
            · exact r
            · subst r
              have h3 := (hp.1 _ _ _).mp a
              have e1 : q0 = q := by have := h3.2.1; rw [hk] at this; exact Option.some.inj this
              have e2 : (p : Int) = p0 := h3.2.2.symm.trans hp1
              exact absurd ⟨e1.symm, by omega⟩ e
          · intro ⟨a, b⟩; exact ⟨a, by omega⟩
      · rw [kO_kIs, kO_kOs, if_neg (fun q => by omega), kO_kOs, if_neg (fun q => by omega), i5 f k j hf]
theorem kWf_5 {n c j : Nat} (hc : c < n) (hj : j < 5) : kWf σ n (5 * c + j) = kWas σ (5 * c + j) := if_pos (by omega)
def kW5 (σ : KS) (c : Nat) : Nat → Int32
  | 0 => kKil σ c
  | 1 => iI (kI σ 33 c)
  | 2 => iI (kI σ 34 c)
  | 3 => if iI (kI σ 36 c) = 0 then 0 else 1
  | _ => iI (kI σ 35 c)
theorem kWas_k (c j : Nat) (hj : j < 5) : kWas σ (5 * c + j) = kW5 σ c j := by
  have e1 : (5 * c + j) % 5 = j := by omega
  have e2 : (5 * c + j) / 5 = c := by omega
  unfold kWas kW5
  rw [e1, e2]
  rcases (by omega : j = 0 ∨ j = 1 ∨ j = 2 ∨ j = 3 ∨ j = 4) with q | q | q | q | q <;> subst q <;> rfl
/-- all in again -/
theorem kInN_all (hw : KW σ) (hp : KPl σ) (hn : KNb σ) {X : KS} (ha : kA X = kA σ) (h0 : ∀ q p, kO X 1 q p = none) : ∀ m, m ≤ kA σ 61 0 → (∀ c j, kO (kInN (kWf σ (kA σ 61 0)) X m) 0 c j = if c < m ∧ j = 0 then kO σ 0 c 0 else kO X 0 c j) ∧ (∀ f c, kI (kInN (kWf σ (kA σ 61 0)) X m) f c = if 33 ≤ f ∧ f ≤ 36 ∧ c < m then kI σ f c else kI X f c) ∧ (∀ q p c, kO (kInN (kWf σ (kA σ 61 0)) X m) 1 q p = some c ↔ c < m ∧ kO σ 0 c 0 = some q ∧ kI σ 33 c = (p : Int)) ∧ (∀ f k j, 2 ≤ f → kO (kInN (kWf σ (kA σ 61 0)) X m) f k j = kO X f k j) ∧ kV (kInN (kWf σ (kA σ 61 0)) X m) = kV X ∧ kL (kInN (kWf σ (kA σ 61 0)) X m) = kL X := by
  intro m
  induction m with
  | zero =>
    intro _
    refine ⟨fun c j => ?_, fun f c => ?_, fun q p c => ⟨fun h => ?_, fun h => ?_⟩, fun f k j _ => rfl, rfl, rfl⟩
    · rw [if_neg (fun q => Nat.not_lt_zero c q.1)]; rfl
    · rw [if_neg (fun q => Nat.not_lt_zero c q.2.2)]; rfl
    · have h2 : kO X 1 q p = some c := h
      rw [h0] at h2; cases h2
    · exact absurd h.1 (Nat.not_lt_zero c)
  | succ m ih =>
    intro hm
    obtain ⟨i1, i2, i4, i5, i6, i7⟩ := ih (by omega)
    have hY : kA (kInN (kWf σ (kA σ 61 0)) X m) = kA σ := by rw [kA_kInN, ha]
    obtain ⟨⟨n1, n2⟩, ⟨n3, n4⟩, n5⟩ := hn.1 m (by omega)
    have w0 : kWf σ (kA σ 61 0) (5 * m) = kKil σ m := (kWf_5 (j := 0) (by omega) (by decide)).trans (kWas_k m 0 (by decide))
    have w1 : kWf σ (kA σ 61 0) (5 * m + 1) = iI (kI σ 33 m) := (kWf_5 (by omega) (by decide)).trans (kWas_k m 1 (by decide))
    have w2 : (kWf σ (kA σ 61 0) (5 * m + 2)).toInt = kI σ 34 m := by rw [(kWf_5 (by omega) (by decide)).trans (kWas_k m 2 (by decide))]; exact iI_toInt ⟨by omega, by omega⟩
    have w3 : (if kWf σ (kA σ 61 0) (5 * m + 3) = 1 then (1 : Int) else 0) = kI σ 36 m := by
      rw [(kWf_5 (by omega) (by decide)).trans (kWas_k m 3 (by decide))]
      show (if (if iI (kI σ 36 m) = 0 then (0 : Int32) else 1) = 1 then (1 : Int) else 0) = _
      rcases n5 with e | e <;> rw [e] <;> rfl
    have w4 : (kWf σ (kA σ 61 0) (5 * m + 4)).toInt = kI σ 35 m := by rw [(kWf_5 (by omega) (by decide)).trans (kWas_k m 4 (by decide))]; exact iI_toInt ⟨by omega, by omega⟩
    generalize hYe : kInN (kWf σ (kA σ 61 0)) X m = Y at i1 i2 i4 i5 i6 i7 hY
    have hst : kInN (kWf σ (kA σ 61 0)) X (m + 1) = kIs (kIs (kIs (kGi Y m (kKil σ m) (iI (kI σ 33 m))) 34 m (kI σ 34 m)) 36 m (kI σ 36 m)) 35 m (kI σ 35 m) := by
      show kIn (kWf σ (kA σ 61 0)) (kInN (kWf σ (kA σ 61 0)) X m) m = _
      rw [hYe]
      unfold kIn
      rw [w0, w1, w2, w3, w4]
    rw [hst]
    have hI36 : ∀ (Z : KS) (f c : Nat), kI (kIs (kIs (kIs Z 34 m (kI σ 34 m)) 36 m (kI σ 36 m)) 35 m (kI σ 35 m)) f c = if (f = 34 ∨ f = 35 ∨ f = 36) ∧ c = m then kI σ f c else kI Z f c := by
      intro Z f c
      rw [kI_kIs, kI_kIs, kI_kIs]
      by_cases e : c = m
      · subst e
        by_cases f5 : f = 35
        · subst f5; rw [if_pos ⟨rfl, rfl⟩, if_pos ⟨Or.inr (Or.inl rfl), rfl⟩]
        · rw [if_neg (fun q => f5 q.1)]
          by_cases f6 : f = 36
          · subst f6; rw [if_pos ⟨rfl, rfl⟩, if_pos ⟨Or.inr (Or.inr rfl), rfl⟩]
          · rw [if_neg (fun q => f6 q.1)]
            by_cases f4 : f = 34
            · subst f4; rw [if_pos ⟨rfl, rfl⟩, if_pos ⟨Or.inl rfl, rfl⟩]
            · rw [if_neg (fun q => f4 q.1), if_neg (fun q => by omega)]
      · rw [if_neg (fun q => e q.2), if_neg (fun q => e q.2), if_neg (fun q => e q.2), if_neg (fun q => e q.2)]
    cases hk : kO σ 0 m 0 with
    | none =>
      have h33 := hp.2.2 m (by omega) hk
      have hkk : kKil σ m = -1 := by unfold kKil; rw [hk]
      have hg : kGi Y m (kKil σ m) (iI (kI σ 33 m)) = kIs (kOs Y 0 m 0 none) 33 m (-1) := by
        unfold kGi
        rw [hkk]
        exact if_neg (fun q => absurd q.1 (by decide))
      rw [hg]
      refine ⟨fun c j => ?_, fun f c => ?_, fun q p c => ?_, fun f k j hf => ?_, i6, i7⟩
      · rw [kO_kIs, kO_kIs, kO_kIs, kO_kIs, kO_kOs, i1]
        by_cases e : c = m ∧ j = 0
        · rw [if_pos ⟨rfl, e⟩, if_pos (by omega), e.1, hk]
        · rw [if_neg (fun q => e q.2)]
          by_cases e2 : c < m ∧ j = 0
          · rw [if_pos e2, if_pos (by omega)]
          · rw [if_neg e2, if_neg (by omega)]
      · rw [hI36, kI_kIs, kI_kOs, i2]
        by_cases e : c = m
        · subst e
          by_cases e1 : f = 34 ∨ f = 35 ∨ f = 36
          · rw [if_pos ⟨e1, rfl⟩, if_pos (by omega)]
          · rw [if_neg (fun q => e1 q.1)]
            by_cases e2 : f = 33
            · subst e2; rw [if_pos ⟨rfl, rfl⟩, if_pos (by omega), h33]
            · rw [if_neg (fun q => e2 q.1), if_neg (fun q => Nat.lt_irrefl _ q.2.2), if_neg (fun q => by omega)]
        · rw [if_neg (fun q => e q.2), if_neg (fun q => e q.2)]
          by_cases e2 : 33 ≤ f ∧ f ≤ 36 ∧ c < m
          · rw [if_pos e2, if_pos (by omega)]
          · rw [if_neg e2, if_neg (by omega)]
      · rw [kO_kIs, kO_kIs, kO_kIs, kO_kIs, kO_kOs, if_neg (fun q => absurd q.1 (by decide)), i4]
        constructor
        · intro ⟨a, b⟩; exact ⟨by omega, b⟩
        · intro ⟨a, b, d⟩
          refine ⟨?_, b, d⟩
          rcases Nat.lt_or_eq_of_le (Nat.le_of_lt_succ a) with r | r
          · exact r
          · subst r; rw [hk] at b; cases b
      · rw [kO_kIs, kO_kIs, kO_kIs, kO_kIs, kO_kOs, if_neg (fun q => by omega), i5 f k j hf]
    | some q0 =>
      obtain ⟨hq0, p0, hp0, hp1⟩ := hp.2.1 m q0 (by omega) hk
      have hr6 := hw.2.2.2.1 q0 hq0
      have hq3 := hw.2.1
      have hkk : kKil σ m = nI q0 := by unfold kKil; rw [hk]
      have e1 : (nI q0).toInt = q0 := nI_toInt (by omega)
      have e2 : (iI (kI σ 33 m)).toInt = p0 := by rw [hp1]; exact iI_toInt ⟨by omega, by omega⟩
      have hg : kGi Y m (kKil σ m) (iI (kI σ 33 m)) = kOs (kIs (kOs Y 0 m 0 (some q0)) 33 m p0) 1 q0 p0 (some m) := by
        unfold kGi
        rw [hkk, e1, e2, hY, if_pos (by omega)]
        rfl
      rw [hg]
      refine ⟨fun c j => ?_, fun f c => ?_, fun q p c => ?_, fun f k j hf => ?_, i6, i7⟩
      · rw [kO_kIs, kO_kIs, kO_kIs, kO_kOs, if_neg (fun q => absurd q.1 (by decide)), kO_kIs, kO_kOs, i1]
        by_cases e : c = m ∧ j = 0
        · rw [if_pos ⟨rfl, e⟩, if_pos (by omega), e.1, hk]
        · rw [if_neg (fun q => e q.2)]
          by_cases e2 : c < m ∧ j = 0
          · rw [if_pos e2, if_pos (by omega)]
          · rw [if_neg e2, if_neg (by omega)]
      · rw [hI36, kI_kOs, kI_kIs, kI_kOs, i2]
        by_cases e : c = m
        · subst e
          by_cases e1 : f = 34 ∨ f = 35 ∨ f = 36
          · rw [if_pos ⟨e1, rfl⟩, if_pos (by omega)]
          · rw [if_neg (fun q => e1 q.1)]
            by_cases e2 : f = 33
            · subst e2; rw [if_pos ⟨rfl, rfl⟩, if_pos (by omega), hp1]
            · rw [if_neg (fun q => e2 q.1), if_neg (fun q => Nat.lt_irrefl _ q.2.2), if_neg (fun q => by omega)]
        · rw [if_neg (fun q => e q.2), if_neg (fun q => e q.2)]
          by_cases e2 : 33 ≤ f ∧ f ≤ 36 ∧ c < m
          · rw [if_pos e2, if_pos (by omega)]
          · rw [if_neg e2, if_neg (by omega)]
      · rw [kO_kIs, kO_kIs, kO_kIs, kO_kOs]
        by_cases e : q = q0 ∧ p = p0
        · rw [if_pos ⟨rfl, e⟩]
          obtain ⟨rfl, rfl⟩ := e
          constructor
          · intro h; cases h; exact ⟨by omega, hk, hp1⟩
          · intro ⟨a, b, d⟩
            have x1 := (hp.1 q p c).mpr ⟨by omega, b, d⟩
            have x2 := (hp.1 q p m).mpr ⟨by omega, hk, hp1⟩
            rw [← x1, x2]
        · rw [if_neg (fun q => e q.2), kO_kIs, kO_kOs, if_neg (fun q => absurd q.1 (by decide)), i4]
          constructor
          · intro ⟨a, b⟩; exact ⟨by omega, b⟩
          · intro ⟨a, b, d⟩
            refine ⟨?_, b, d⟩
            rcases Nat.lt_or_eq_of_le (Nat.le_of_lt_succ a) with r | r
            · exact r
            · subst r
              rw [hk] at b
              have y1 : q0 = q := Option.some.inj b
              have y2 : (p : Int) = p0 := d.symm.trans hp1
              exact absurd ⟨y1.symm, by omega⟩ e
      · rw [kO_kIs, kO_kIs, kO_kIs, kO_kOs, if_neg (fun q => by omega), kO_kIs, kO_kOs, if_neg (fun q => by omega), i5 f k j hf]
theorem kHtN_all (hn : KNb σ) (X : KS) : ∀ m, m ≤ kA σ 62 0 → (∀ f c, kI (kHtN (kHf σ (kA σ 62 0)) X m) f c = if f = 41 ∧ c < m then kI σ 41 c else kI X f c) ∧ kO (kHtN (kHf σ (kA σ 62 0)) X m) = kO X ∧ kV (kHtN (kHf σ (kA σ 62 0)) X m) = kV X ∧ kL (kHtN (kHf σ (kA σ 62 0)) X m) = kL X := by
  intro m
  induction m with
  | zero => intro _; exact ⟨fun f c => by rw [if_neg (fun q => Nat.not_lt_zero c q.2)]; rfl, rfl, rfl, rfl⟩
  | succ m ih =>
    intro hm
    obtain ⟨i1, i2, i3, i4⟩ := ih (by omega)
    have hh := hn.2 m (by omega)
    have e : (kHf σ (kA σ 62 0) m).toInt = kI σ 41 m := by
      unfold kHf
      rw [if_pos (by omega)]
      exact iI_toInt ⟨by omega, by omega⟩
    refine ⟨fun f c => ?_, i2, i3, i4⟩
    show kI (kIs (kHtN (kHf σ (kA σ 62 0)) X m) 41 m (kHf σ (kA σ 62 0) m).toInt) f c = _
    rw [kI_kIs, e, i1]
    by_cases e1 : f = 41 ∧ c = m
    · rw [if_pos e1, if_pos (by omega), e1.2]
    · rw [if_neg e1]
      by_cases e2 : f = 41 ∧ c < m
      · rw [if_pos e2, if_pos (by omega)]
      · rw [if_neg e2, if_neg (by omega)]
theorem KS_ext {a b : KS} (h1 : kI a = kI b) (h2 : kA a = kA b) (h3 : kO a = kO b) (h4 : kV a = kV b) (h5 : kL a = kL b) : a = b := Prod.ext h1 (Prod.ext h2 (Prod.ext h3 (Prod.ext h4 h5)))
/-- WHAT WAS IS BROUGHT BACK -/
theorem kBack_eq (hu : kUc σ τ) (hw : KW σ) (hp : KPl σ) (hp1 : KPl τ) (hn : KNb σ) : kBack τ (kWf σ (kA σ 61 0)) (kHf σ (kA σ 62 0)) (kI σ 3 0) (kI σ 7 0) = kIs (kIs σ 4 0 (kI τ 4 0)) 5 0 (kI τ 5 0) := by
  obtain ⟨u1, u2, u3, u4, u5⟩ := hu
  unfold kBack
  rw [u1]
  have hpa : KPl (kIs (kIs τ 3 0 (kI σ 3 0)) 7 0 (kI σ 7 0)) := by
    have e : ∀ c, kI (kIs (kIs τ 3 0 (kI σ 3 0)) 7 0 (kI σ 7 0)) 33 c = kI τ 33 c := fun c => by rw [kI_kIs, if_neg (fun q => absurd q.1 (by decide)), kI_kIs, if_neg (fun q => absurd q.1 (by decide))]
    refine ⟨fun q p c => ?_, fun c q hc hq => ?_, fun c hc hq => ?_⟩
    · rw [e]; exact hp1.1 q p c
    · rw [e]; exact hp1.2.1 c q hc hq
    · rw [e]; exact hp1.2.2 c hc hq
  obtain ⟨o1, o2, o3, o4, o5, o6, o7⟩ := kOutN_all hpa (kA σ 61 0) (by rw [show kA (kIs (kIs τ 3 0 (kI σ 3 0)) 7 0 (kI σ 7 0)) = kA τ from rfl, u1]; exact Nat.le_refl _)
  have hax : kA (kOutN (kIs (kIs τ 3 0 (kI σ 3 0)) 7 0 (kI σ 7 0)) (kA σ 61 0)) = kA σ := by rw [kA_kOutN]; exact u1
  generalize hX : kOutN (kIs (kIs τ 3 0 (kI σ 3 0)) 7 0 (kI σ 7 0)) (kA σ 61 0) = X at o1 o2 o3 o4 o5 o6 o7 hax
  have h0 : ∀ q p, kO X 1 q p = none := by
    intro q p
    cases hc : kO X 1 q p with
    | none => rfl
    | some c =>
      have h := (o4 q p c).mp hc
      have h2 := (hpa.1 q p c).mp h.1
      have h3 : c < kA σ 61 0 := by have := h2.1; rw [show kA (kIs (kIs τ 3 0 (kI σ 3 0)) 7 0 (kI σ 7 0)) = kA τ from rfl, u1] at this; exact this
      omega
  obtain ⟨n1, n2, n3, n4, n5, n6⟩ := kInN_all hw hp hn hax h0 (kA σ 61 0) (Nat.le_refl _)
  have hay : kA (kInN (kWf σ (kA σ 61 0)) X (kA σ 61 0)) = kA σ := by rw [kA_kInN, hax]
  generalize hY : kInN (kWf σ (kA σ 61 0)) X (kA σ 61 0) = Y at n1 n2 n3 n4 n5 n6 hay
  obtain ⟨t1, t2, t3, t4⟩ := kHtN_all hn Y (kA σ 62 0) (Nat.le_refl _)
  refine KS_ext ?_ ?_ ?_ ?_ ?_
  · funext f k
    rw [t1, n2]
    by_cases e41 : f = 41 ∧ k < kA σ 62 0
    · rw [if_pos e41, kI_kIs, if_neg (fun q => by omega), kI_kIs, if_neg (fun q => by omega), e41.1]
    · rw [if_neg e41]
      by_cases e33 : 33 ≤ f ∧ f ≤ 36 ∧ k < kA σ 61 0
      · rw [if_pos e33, kI_kIs, if_neg (fun q => by omega), kI_kIs, if_neg (fun q => by omega)]
      · rw [if_neg e33]
        have hX0 : kI X f k = kI (kIs (kIs τ 3 0 (kI σ 3 0)) 7 0 (kI σ 7 0)) f k := by
          by_cases e : f = 33
          · subst e; rw [o2, if_neg (fun q => e33 ⟨by decide, by decide, q⟩)]
          · exact o3 f k e
        rw [hX0, kI_kIs, kI_kIs, kI_kIs, kI_kIs]
        by_cases e7 : f = 7 ∧ k = 0
        · rw [if_pos e7, if_neg (fun q => by omega), if_neg (fun q => by omega), e7.1, e7.2]
        · rw [if_neg e7]
          by_cases e3 : f = 3 ∧ k = 0
          · rw [if_pos e3, if_neg (fun q => by omega), if_neg (fun q => by omega), e3.1, e3.2]
          · rw [if_neg e3]
            by_cases e5 : f = 5 ∧ k = 0
            · rw [if_pos e5, e5.1, e5.2]
            · rw [if_neg e5]
              by_cases e4 : f = 4 ∧ k = 0
              · rw [if_pos e4, e4.1, e4.2]
              · rw [if_neg e4]
                refine u2 f k ?_
                rintro (q | q | q | q | q | q)
                · exact e3 q
                · exact e4 q
                · exact e5 q
                · exact e7 q
                · exact e33 q
                · exact e41 q
  · rw [kA_kHtN, hay]; rfl
  · rw [t2]
    funext f k j
    rw [show kO (kIs (kIs σ 4 0 (kI τ 4 0)) 5 0 (kI τ 5 0)) = kO σ from rfl]
    by_cases e1 : f = 1
    · subst e1
      cases hc : kO σ 1 k j with
      | none =>
        cases hd : kO Y 1 k j with
        | none => rfl
        | some c =>
          have := (n3 k j c).mp hd
          have := (hp.1 k j c).mpr this
          rw [hc] at this; cases this
      | some c => exact (n3 k j c).mpr ((hp.1 k j c).mp hc)
    · by_cases e0 : f = 0
      · subst e0
        rw [n1, o1]
        by_cases e : k < kA σ 61 0 ∧ j = 0
        · rw [if_pos e, e.2]
        · rw [if_neg e, if_neg e]
          exact u3 0 k j (by decide) (fun q => e q.2)
      · rw [n4 f k j (by omega), o5 f k j (by omega)]
        exact u3 f k j e1 (fun q => e0 q.1)
  · rw [t3, n5, o6]; exact u4
  · rw [t4, n6, o7]; exact u5
end KBA
