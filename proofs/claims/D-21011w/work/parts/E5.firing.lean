/-! A FIRING, closed -/
theorem toI (x : Int32) : iI x.toInt = x := iI_self x
/-- what a formula reads -/
def kBq (σ τ : KS) : Prop := kI τ 3 0 = kI σ 3 0 ∧ ∀ c, kI τ 31 c = kI σ 31 c ∧ kI τ 32 c = kI σ 32 c
section KBQ
variable {F : Nat → Option (aEnv → Int64)} {σ τ : KS}
theorem kBq.temp (h : kBq σ τ) (c : Nat) (x y : Int32) : kTemp F τ c x y = kTemp F σ c x y := by
  have e : ∀ e0 : aEnv, eC τ e0 c x y = eC σ e0 c x y := fun e0 => by
    unfold eC eW
    rw [h.1, (h.2 c).1, (h.2 c).2]
  unfold kTemp
  rw [e]
theorem kBq.crack (h : kBq σ τ) (c : Nat) (x y : Int32) : kCrack F τ c x y = kCrack F σ c x y := by
  have e : ∀ e0 : aEnv, eC τ e0 c x y = eC σ e0 c x y := fun e0 => by
    unfold eC eW
    rw [h.1, (h.2 c).1, (h.2 c).2]
  unfold kCrack
  rw [e, h.temp]
theorem kBq.stick (h : kBq σ τ) (c : Nat) (x : Int32) (d : Nat) (y z : Int32) : kStick F τ c x d y z = kStick F σ c x d y z := by
  have e : ∀ e0 : aEnv, eW τ e0 z = eW σ e0 z := fun e0 => by
    unfold eW
    rw [h.1]
  unfold kStick
  rw [e, (h.2 c).2, (h.2 d).2]
end KBQ
theorem stkB (τ : KS) {c d : Nat} (hc : c < 32) (hd : d < 32) (x : Nat) {i : Nat} (hi : i < 32) : bt (iI (kI (kStk τ c d) 35 x)) i = true ↔ bt (iI (kI τ 35 x)) i = true ∨ (x = c ∧ i = d) ∨ (x = d ∧ i = c) := by
  unfold kStk
  rw [kI_kIs]
  by_cases h1 : x = d
  · subst h1
    rw [if_pos ⟨rfl, rfl⟩, toI, b_or, Bool.or_eq_true, b_one hc hi, kI_kIs, decide_eq_true_eq]
    by_cases h2 : x = c
    · subst h2
      rw [if_pos ⟨rfl, rfl⟩, toI, b_or, Bool.or_eq_true, b_one hc hi, decide_eq_true_eq]
      constructor
      · rintro ((a | a) | a)
        · exact Or.inl a
        · exact Or.inr (Or.inl ⟨rfl, a⟩)
        · exact Or.inr (Or.inl ⟨rfl, a⟩)
      · rintro (a | a | a)
        · exact Or.inl (Or.inl a)
        · exact Or.inr a.2
        · exact Or.inr a.2
    · rw [if_neg (fun w => h2 w.2)]
      constructor
      · rintro (a | a)
        · exact Or.inl a
        · exact Or.inr (Or.inr ⟨rfl, a⟩)
      · rintro (a | a | a)
        · exact Or.inl a
        · exact absurd a.1 h2
        · exact Or.inr a.2
  · rw [if_neg (fun w => h1 w.2), kI_kIs]
    by_cases h2 : x = c
    · subst h2
      rw [if_pos ⟨rfl, rfl⟩, toI, b_or, Bool.or_eq_true, b_one hd hi, decide_eq_true_eq]
      constructor
      · rintro (a | a)
        · exact Or.inl a
        · exact Or.inr (Or.inl ⟨rfl, a⟩)
      · rintro (a | a | a)
        · exact Or.inl a
        · exact Or.inr a.2
        · exact absurd a.1 h1
    · rw [if_neg (fun w => h2 w.2)]
      constructor
      · exact Or.inl
      · rintro (a | a | a)
        · exact a
        · exact absurd a.1 h2
        · exact absurd a.1 h1
theorem stkI (τ : KS) (c d : Nat) {f : Nat} (hf : f ≠ 35) (x : Nat) : kI (kStk τ c d) f x = kI τ f x := by
  unfold kStk
  rw [kI_kIs, if_neg (fun w => hf w.1), kI_kIs, if_neg (fun w => hf w.1)]
section FRN
variable {F : Nat → Option (aEnv → Int64)} {σ : KS} {q : Nat} {hh : Int32} {t k : Nat → Nat → Int32}
def frA (σ : KS) (q n c : Nat) : Prop := ∃ p, p < n ∧ kO σ 1 q p = some c
def frS (F : Nat → Option (aEnv → Int64)) (σ : KS) (hh : Int32) (t : Nat → Nat → Int32) (p c d : Nat) : Prop := ¬ kStick F σ c (t c p) d (t d (p + 1)) hh = 0
def frJ (F : Nat → Option (aEnv → Int64)) (σ : KS) (q : Nat) (hh : Int32) (t : Nat → Nat → Int32) (n c i : Nat) : Prop := ∃ p, p < n ∧ ((kO σ 1 q p = some c ∧ kO σ 1 q (p + 1) = some i ∧ frS F σ hh t p c i) ∨ (kO σ 1 q p = some i ∧ kO σ 1 q (p + 1) = some c ∧ frS F σ hh t p i c))
theorem kNx_eq (hp : KPl σ) (q p : Nat) : kNx σ q p = kO σ 1 q (p + 1) := by
  unfold kNx
  split
  · rfl
  · next h =>
    cases e : kO σ 1 q (p + 1) with
    | none => rfl
    | some d =>
      obtain ⟨a, b, c⟩ := (hp.1 q (p + 1) d).mp e
      obtain ⟨-, p2, e1, e2⟩ := hp.2.1 d q a b
      omega
theorem kFs_I (τ : KS) (p c : Nat) {f : Nat} (hf : f ≠ 35) (x : Nat) : kI (kFs F σ q hh t τ p c) f x = kI τ f x := by
  unfold kFs
  split
  · rfl
  · split
    · rfl
    · exact stkI _ _ _ hf _
theorem kFs_B (hp : KPl σ) (h8 : kA σ 61 0 ≤ 8) {τ : KS} (hb : kBq σ τ) {p c : Nat} (hc : c < 8) (x : Nat) {i : Nat} (hi : i < 32) : bt (iI (kI (kFs F σ q hh t τ p c) 35 x)) i = true ↔ bt (iI (kI τ 35 x)) i = true ∨ ∃ d, kO σ 1 q (p + 1) = some d ∧ frS F σ hh t p c d ∧ ((x = c ∧ i = d) ∨ (x = d ∧ i = c)) := by
  unfold kFs
  rw [kNx_eq hp]
  cases e : kO σ 1 q (p + 1) with
  | none => exact ⟨Or.inl, fun a => a.elim id (fun ⟨d, w, _⟩ => by cases w)⟩
  | some d =>
    have hd := ((hp.1 q (p + 1) d).mp e).1
    dsimp only
    by_cases hs : kStick F τ c (t c p) d (t d (p + 1)) hh = 0
    · rw [if_pos hs]
      refine ⟨Or.inl, fun a => a.elim id (fun ⟨d2, w, w2, _⟩ => ?_)⟩
      cases w
      rw [hb.stick] at hs
      exact absurd hs w2
    · rw [if_neg hs, stkB τ (by omega) (by omega) x hi]
      rw [hb.stick] at hs
      constructor
      · rintro (a | a)
        · exact Or.inl a
        · exact Or.inr ⟨d, rfl, hs, a⟩
      · rintro (a | ⟨d2, w, -, a⟩)
        · exact Or.inl a
        · cases w; exact Or.inr a
theorem frN (hp : KPl σ) (h8 : kA σ 61 0 ≤ 8) : ∀ n, n ≤ kA σ 25 q → (∀ c, frA σ q n c → kO (kFrN F σ q hh t k n) 0 c 0 = none ∧ kI (kFrN F σ q hh t k n) 33 c = -1) ∧ (∀ c, ¬ frA σ q n c → kO (kFrN F σ q hh t k n) 0 c 0 = kO σ 0 c 0 ∧ kI (kFrN F σ q hh t k n) 33 c = kI σ 33 c ∧ kI (kFrN F σ q hh t k n) 34 c = kI σ 34 c ∧ kI (kFrN F σ q hh t k n) 36 c = kI σ 36 c) ∧ (∀ p c, p < n → kO σ 1 q p = some c → kI (kFrN F σ q hh t k n) 34 c = (t c p).toInt ∧ kI (kFrN F σ q hh t k n) 36 c = (k c p).toInt) ∧ (∀ q' p, (q' = q ∧ p < n → kO (kFrN F σ q hh t k n) 1 q' p = none) ∧ (¬ (q' = q ∧ p < n) → kO (kFrN F σ q hh t k n) 1 q' p = kO σ 1 q' p)) ∧ (∀ f c, (f < 33 ∨ 36 < f) → kI (kFrN F σ q hh t k n) f c = kI σ f c) ∧ (∀ c i, i < 32 → (bt (iI (kI (kFrN F σ q hh t k n) 35 c)) i = true ↔ bt (iI (kI σ 35 c)) i = true ∨ frJ F σ q hh t n c i)) := by
  intro n
  induction n with
  | zero =>
    intro _
    refine ⟨fun c ⟨p, w, _⟩ => absurd w (Nat.not_lt_zero p), fun c _ => ⟨rfl, rfl, rfl, rfl⟩, fun p c w => absurd w (Nat.not_lt_zero p), fun q' p => ⟨fun w => absurd w.2 (Nat.not_lt_zero p), fun _ => rfl⟩, fun f c _ => rfl, fun c i _ => ⟨Or.inl, fun a => a.elim id (fun ⟨p, w, _⟩ => absurd w (Nat.not_lt_zero p))⟩⟩
  | succ n ih =>
    intro hn
    obtain ⟨i1, i2, i3, i4, i5, i6⟩ := ih (by omega)
    cases hc : kO σ 1 q n with
    | none =>
      rw [kFrN_n hc]
      have hA : ∀ c, frA σ q (n + 1) c ↔ frA σ q n c := fun c => ⟨fun ⟨p, w, e⟩ => ⟨p, by
        by_cases v : p = n
        · subst v; rw [hc] at e; cases e
        · omega, e⟩, fun ⟨p, w, e⟩ => ⟨p, by omega, e⟩⟩
      refine ⟨fun c h => i1 c ((hA c).mp h), fun c h => i2 c (fun w => h ((hA c).mpr w)), fun p c w e => ?_, fun q' p => ⟨fun w => ?_, fun w => (i4 q' p).2 (fun v => w ⟨v.1, by omega⟩)⟩, i5, fun c i hi => ?_⟩
      · by_cases v : p = n
        · subst v; rw [hc] at e; cases e
        · exact i3 p c (by omega) e
      · by_cases v : p = n
        · subst v
          rw [(i4 q' p).2 (fun w2 => by omega), w.1]; exact hc
        · exact (i4 q' p).1 ⟨w.1, by omega⟩
      · rw [i6 c i hi]
        refine ⟨fun a => a.imp id (fun ⟨p, w, e⟩ => ⟨p, by omega, e⟩), fun a => a.imp id (fun ⟨p, w, e⟩ => ⟨p, ?_, e⟩)⟩
        by_cases v : p = n
        · subst v; rcases e with e | e <;> (rw [hc] at e; cases e.1)
        · omega
    | some c0 =>
      obtain ⟨c1, c2, c3⟩ := (hp.1 q n c0).mp hc
      have hng : ¬ frA σ q n c0 := fun ⟨p, w, e⟩ => by
        have := ((hp.1 q p c0).mp e).2.2
        omega
      have hb : kBq σ (kFrN F σ q hh t k n) := ⟨i5 3 0 (by decide), fun c => ⟨i5 31 c (by decide), i5 32 c (by decide)⟩⟩
      rw [kFrN_s hc]
      generalize kFrN F σ q hh t k n = τ at i1 i2 i3 i4 i5 i6 hb
      obtain ⟨u1, u2, u3, u4⟩ := i2 c0 hng
      have hB := fun x i (hi : i < 32) => kFs_B (q := q) (F := F) (hh := hh) (t := t) hp h8 hb (p := n) (c := c0) (by omega) x hi
      have hI : ∀ f x, f ≠ 35 → kI (kFs F σ q hh t τ n c0) f x = kI τ f x := fun f x hf => kFs_I τ n c0 hf x
      have hO : kO (kFs F σ q hh t τ n c0) = kO τ := kO_kFs τ n c0
      generalize kFs F σ q hh t τ n c0 = υ at hB hI hO
      have hgo : kGo (kIs (kIs υ 34 c0 (t c0 n).toInt) 36 c0 (k c0 n).toInt) c0 = kIs (kOs (kOs (kIs (kIs υ 34 c0 (t c0 n).toInt) 36 c0 (k c0 n).toInt) 1 q n none) 0 c0 0 none) 33 c0 (-1) := by
        have e1 : kO (kIs (kIs υ 34 c0 (t c0 n).toInt) 36 c0 (k c0 n).toInt) 0 c0 0 = some q := by
          show kO υ 0 c0 0 = some q
          rw [hO, u1]; exact c2
        have e2 : kI (kIs (kIs υ 34 c0 (t c0 n).toInt) 36 c0 (k c0 n).toInt) 33 c0 = (n : Int) := by
          rw [kI_kIs, if_neg (by omega), kI_kIs, if_neg (by omega), hI _ _ (by decide), u2]; exact c3
        unfold kGo
        rw [e1, e2]
        rfl
      rw [hgo]
      have gI : ∀ f x, kI (kIs (kOs (kOs (kIs (kIs υ 34 c0 (t c0 n).toInt) 36 c0 (k c0 n).toInt) 1 q n none) 0 c0 0 none) 33 c0 (-1)) f x = if f = 33 ∧ x = c0 then -1 else if f = 36 ∧ x = c0 then (k c0 n).toInt else if f = 34 ∧ x = c0 then (t c0 n).toInt else kI υ f x := fun f x => rfl
      have gO : ∀ f x j, kO (kIs (kOs (kOs (kIs (kIs υ 34 c0 (t c0 n).toInt) 36 c0 (k c0 n).toInt) 1 q n none) 0 c0 0 none) 33 c0 (-1)) f x j = if f = 0 ∧ x = c0 ∧ j = 0 then none else if f = 1 ∧ x = q ∧ j = n then none else kO τ f x j := fun f x j => by rw [← hO]; rfl
      generalize kIs (kOs (kOs (kIs (kIs υ 34 c0 (t c0 n).toInt) 36 c0 (k c0 n).toInt) 1 q n none) 0 c0 0 none) 33 c0 (-1) = ω at gI gO
      have hA : ∀ c, frA σ q (n + 1) c ↔ frA σ q n c ∨ c = c0 := fun c => ⟨fun ⟨p, w, e⟩ => by
        by_cases v : p = n
        · subst v; rw [hc] at e; cases e; exact Or.inr rfl
        · exact Or.inl ⟨p, by omega, e⟩, fun a => a.elim (fun ⟨p, w, e⟩ => ⟨p, by omega, e⟩) (fun e => ⟨n, by omega, by rw [e]; exact hc⟩)⟩
      refine ⟨fun c h => ?_, fun c h => ?_, fun p c w e => ?_, fun q' p => ⟨fun w => ?_, fun w => ?_⟩, fun f c hf => ?_, fun c i hi => ?_⟩
      · rw [gO, gI]
        by_cases e : c = c0
        · subst e; rw [if_pos ⟨rfl, rfl, rfl⟩, if_pos ⟨rfl, rfl⟩]; exact ⟨rfl, rfl⟩
        · have h1 := i1 c (((hA c).mp h).resolve_right e)
          rw [if_neg (fun w => e w.2.1), if_neg (fun w => absurd w.1 (by decide)), if_neg (fun w => e w.2), if_neg (fun w => e w.2), if_neg (fun w => e w.2), hI _ _ (by decide)]
          exact h1
      · have e : c ≠ c0 := fun w => h ((hA c).mpr (Or.inr w))
        have h1 := i2 c (fun w => h ((hA c).mpr (Or.inl w)))
        rw [gO, if_neg (fun w => e w.2.1), if_neg (fun w => absurd w.1 (by decide))]
        refine ⟨h1.1, ?_, ?_, ?_⟩
        · rw [gI, if_neg (fun w => e w.2), if_neg (fun w => e w.2), if_neg (fun w => e w.2), hI _ _ (by decide)]; exact h1.2.1
        · rw [gI, if_neg (fun w => e w.2), if_neg (fun w => e w.2), if_neg (fun w => e w.2), hI _ _ (by decide)]; exact h1.2.2.1
        · rw [gI, if_neg (fun w => e w.2), if_neg (fun w => e w.2), if_neg (fun w => e w.2), hI _ _ (by decide)]; exact h1.2.2.2
      · by_cases v : p = n
        · subst v; rw [hc] at e; cases e
          rw [gI, gI, if_neg (by omega), if_neg (by omega), if_pos ⟨rfl, rfl⟩, if_neg (by omega), if_pos ⟨rfl, rfl⟩]
          exact ⟨rfl, rfl⟩
        · have h1 := i3 p c (by omega) e
          have e2 : c ≠ c0 := fun w => hng ⟨p, by omega, by rw [← w]; exact e⟩
          rw [gI, gI, if_neg (fun w => e2 w.2), if_neg (fun w => e2 w.2), if_neg (fun w => e2 w.2), if_neg (fun w => e2 w.2), if_neg (fun w => e2 w.2), if_neg (fun w => e2 w.2), hI _ _ (by decide), hI _ _ (by decide)]
          exact h1
      · rw [gO, if_neg (fun w => absurd w.1 (by decide))]
        by_cases v : p = n
        · rw [if_pos ⟨rfl, w.1, v⟩]
        · rw [if_neg (fun w => v w.2.2)]
          exact (i4 q' p).1 ⟨w.1, by omega⟩
      · rw [gO, if_neg (fun w => absurd w.1 (by decide)), if_neg (fun v => w ⟨v.2.1, by omega⟩)]
        exact (i4 q' p).2 (fun v => w ⟨v.1, by omega⟩)
      · rw [gI, if_neg (by omega), if_neg (by omega), if_neg (by omega), hI _ _ (by omega)]
        exact i5 f c hf
      · rw [gI, if_neg (by omega), if_neg (by omega), if_neg (by omega), hB c i hi, i6 c i hi]
        constructor
        · rintro ((a | ⟨p, w, a⟩) | ⟨d, e, s, a⟩)
          · exact Or.inl a
          · exact Or.inr ⟨p, by omega, a⟩
          · refine Or.inr ⟨n, by omega, ?_⟩
            rcases a with ⟨rfl, rfl⟩ | ⟨rfl, rfl⟩
            · exact Or.inl ⟨hc, e, s⟩
            · exact Or.inr ⟨hc, e, s⟩
        · rintro (a | ⟨p, w, a⟩)
          · exact Or.inl (Or.inl a)
          · by_cases v : p = n
            · subst v
              rcases a with ⟨a, b, s⟩ | ⟨a, b, s⟩
              · rw [hc] at a; cases a
                exact Or.inr ⟨i, b, s, Or.inl ⟨rfl, rfl⟩⟩
              · rw [hc] at a; cases a
                exact Or.inr ⟨c, b, s, Or.inr ⟨rfl, rfl⟩⟩
            · exact Or.inl (Or.inr ⟨p, by omega, a⟩)
end FRN
