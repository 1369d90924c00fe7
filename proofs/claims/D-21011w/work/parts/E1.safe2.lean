/-! safe(): what it answers, by the children -/
theorem AI.i5 {F : Nat → Option (aEnv → Int64)} {σ : KS} {V : Nat → Nat → Int32} {M : Nat → Nat → Nat → Int32} {R Q C : Nat} (h : AI F σ V M R Q C) (y : Int) : AI F (kIs σ 5 0 y) V M R Q C := by
  refine ⟨h.1, fun q hq => ?_, fun c hc => ⟨⟨(h.2.2 c hc).1.1, ?_⟩, (h.2.2 c hc).2⟩⟩
  · obtain ⟨a, b, c, d, e⟩ := h.2.1 q hq
    exact ⟨a, b, c, d, kFnd_E (kEy_is σ rfl 0 y).symm e⟩
  · rw [(h.2.2 c hc).1.2, (kGs_E (F := F) ((kEy_is σ rfl 0 y).is 4 0 1) 1).1.1 34 c rfl]
theorem kFull_6 {σ : KS} (hw : KW σ) {q : Nat} (hq : q < kA σ 62 0) : kFull σ q ≤ 6 := by
  have := hw.2.2.2.1 q hq
  have := kCnt_le (kO σ 1 q) (kA σ 25 q)
  show kCnt (kO σ 1 q) (kA σ 25 q) ≤ 6
  omega
def LSf (F : Nat → Option (aEnv → Int64)) (σ : KS) (q h c : Nat) : Prop := ∀ p, kO σ 1 q p = some c → kCrack F σ c (nI h) (nI p) = 0 ∧ ∀ d, kO σ 1 q (p + 1) = some d → kStick F σ c (kTemp F σ c (nI h) (nI p)) d (kTemp F σ d (nI h) (nI (p + 1))) (nI h) = 0
theorem kBT_at {F : Nat → Option (aEnv → Int64)} {σ : KS} {q c p : Nat} {hh : Int32} (hp : KPl σ) (h : kO σ 1 q p = some c) : kBT F σ q hh c p = kTemp F σ c hh (nI p) ∧ kBK F σ q hh c p = kCrack F σ c hh (nI p) := by
  obtain ⟨h1, h2, h3⟩ := (hp.1 q p c).mp h
  obtain ⟨-, p', h4, h5⟩ := hp.2.1 c q h1 h2
  have hpp : p = p' := by omega
  subst hpp
  exact ⟨if_pos ⟨Or.inl h1, h2, h4⟩, if_pos ⟨Or.inl h1, h2, h4⟩⟩
theorem kSaf_L {F : Nat → Option (aEnv → Int64)} {σ : KS} {q h : Nat} (hp : KPl σ) : kSaf F σ q (nI h) ↔ ∀ c, c < kA σ 61 0 → LSf F σ q h c := by
  constructor
  · intro H c hc p e
    obtain ⟨h1, h2, h3⟩ := (hp.1 q p c).mp e
    obtain ⟨-, p', h4, h5⟩ := hp.2.1 c q h1 h2
    have hpp : p = p' := by omega
    subst hpp
    obtain ⟨a, b⟩ := H p h4 c e
    rw [(kBT_at hp e).2] at a
    refine ⟨a, fun d hd => ?_⟩
    obtain ⟨d1, d2, d3⟩ := (hp.1 q (p + 1) d).mp hd
    obtain ⟨-, p2, d4, d5⟩ := hp.2.1 d q d1 d2
    have b2 := b d ((if_pos (show p + 1 < kA σ 25 q by omega)).trans hd)
    rw [(kBT_at hp e).1, (kBT_at hp hd).1] at b2
    exact b2
  · intro H p hpr c e
    have h1 := ((hp.1 q p c).mp e).1
    obtain ⟨a, b⟩ := H c h1 p e
    refine ⟨(kBT_at hp e).2.trans a, fun d hd => ?_⟩
    unfold kNx at hd
    split at hd
    · rw [(kBT_at hp e).1, (kBT_at hp hd).1]
      exact b d hd
    · cases hd
/-- the safe heat among the first n -/
def kSfN (F : Nat → Option (aEnv → Int64)) (σ : KS) (q n : Nat) (x : Int32) : Prop := (x = -1 ∧ ∀ j, j < n → ¬ kSaf F σ q (nI j)) ∨ ∃ h, h < n ∧ x = nI h ∧ kSaf F σ q (nI h) ∧ ∀ j, h < j → j < n → ¬ kSaf F σ q (nI j)
theorem kSfN.no {F : Nat → Option (aEnv → Int64)} {σ : KS} {q n : Nat} {x : Int32} (h : kSfN F σ q n x) (hn : ¬ kSaf F σ q (nI n)) : kSfN F σ q (n + 1) x := by
  rcases h with ⟨a, b⟩ | ⟨k, a, b, c, d⟩
  · refine Or.inl ⟨a, fun j hj => ?_⟩
    by_cases e : j = n
    · subst e; exact hn
    · exact b j (by omega)
  · refine Or.inr ⟨k, by omega, b, c, fun j h1 hj => ?_⟩
    by_cases e : j = n
    · subst e; exact hn
    · exact d j h1 (by omega)
theorem kSfN.yes {F : Nat → Option (aEnv → Int64)} {σ : KS} {q n : Nat} (hn : kSaf F σ q (nI n)) : kSfN F σ q (n + 1) (nI n) := Or.inr ⟨n, by omega, rfl, hn, fun j h1 h2 => by omega⟩
theorem kSfN.uniq {F : Nat → Option (aEnv → Int64)} {σ : KS} {q n : Nat} {x y : Int32} (h : kSfN F σ q n x) (h2 : kSfN F σ q n y) : x = y := by
  rcases h with ⟨a, b⟩ | ⟨k, a, b, c, d⟩
  · rcases h2 with ⟨a2, b2⟩ | ⟨k2, a2, b2, c2, d2⟩
    · rw [a, a2]
    · exact absurd c2 (b k2 a2)
  · rcases h2 with ⟨a2, b2⟩ | ⟨k2, a2, b2, c2, d2⟩
    · exact absurd c (b2 k a)
    · have : k = k2 := by
        rcases Nat.lt_trichotomy k k2 with w | w | w
        · exact absurd c2 (d k2 w a2)
        · exact w
        · exact absurd c (d2 k w a)
      rw [b, b2, this]
/-- what safe() answers -/
def kSfA (F : Nat → Option (aEnv → Int64)) (σ : KS) (q : Nat) (x : Int32) : Prop := (kFull σ q = 0 ∧ x = -1) ∨ (¬ kFull σ q = 0 ∧ kSfN F σ q 21 x)
theorem kSfA.uniq {F : Nat → Option (aEnv → Int64)} {σ : KS} {q : Nat} {x y : Int32} (h : kSfA F σ q x) (h2 : kSfA F σ q y) : x = y := by
  rcases h with ⟨a, b⟩ | ⟨a, b⟩ <;> rcases h2 with ⟨a2, b2⟩ | ⟨a2, b2⟩
  · rw [b, b2]
  · exact absurd a a2
  · exact absurd a2 a
  · exact b.uniq b2
theorem m_safe {l : Launch} {s0 : State} {D : va_G} (h0 : x0 l s0 D) (σ : KS) (gF : xG) (f : aEnv) {F : Nat → Option (aEnv → Int64)} (hF : kF gF σ F) (hv : KV σ) (hNB : kNB gF) (kq : Nat) (hq : kq < kA σ 62 0) : xMet l s0 D yX2_safe cX2_safe 4 (some .int) (xr 41 399 2457 1800) [.ref (kA σ 0 0), .int (nI kq)] (kmix (kT σ f) gF) (fun r g1 => ∃ f1 x, r = some (.int x) ∧ kSfA F σ kq x ∧ g1 = kmix (kT σ f1) gF) := by
  by_cases hfl : kFull σ kq = 0
  · refine (m_X2_safe_0 h0 σ gF f hv kq hq hfl).post ?_
    rintro r g1 ⟨e1, e2⟩
    exact ⟨f, -1, e1, Or.inl ⟨hfl, rfl⟩, e2⟩
  · refine (m_X2_safe_s h0 σ gF f hF hv hNB kq hq hfl).post ?_
    rintro r g1 ⟨f1, e1, e2⟩
    rcases e1 with ⟨h, a, b, c, d⟩ | ⟨a, b⟩
    · exact ⟨f1, nI h, d, Or.inr ⟨hfl, Or.inr ⟨h, by omega, rfl, b, fun j h1 h2 => c j h1 (by omega)⟩⟩, e2⟩
    · exact ⟨f1, -1, b, Or.inr ⟨hfl, Or.inl ⟨rfl, fun j hj => a j (by omega)⟩⟩, e2⟩
theorem abs99 {x y : Int32} {a b : Int} (hx : x = iI a) (hy : y = iI b) (ha : 0 ≤ a ∧ a ≤ 99) (hb : 0 ≤ b ∧ b ≤ 99) : ∃ z, (if 0 ≤ x - y then x - y else -(x - y)) = iI z ∧ 0 ≤ z ∧ z ≤ 99 ∧ z = (a - b).natAbs := by
  subst hx; subst hy
  rw [iI_sub]
  by_cases e : 0 ≤ a - b
  · exact ⟨a - b, if_pos ((iI_le (a := 0) ⟨by decide, by decide⟩ ⟨by omega, by omega⟩).mpr e), by omega, by omega, by omega⟩
  · exact ⟨-(a - b), (if_neg (fun w => e ((iI_le (a := 0) ⟨by decide, by decide⟩ ⟨by omega, by omega⟩).mp w))).trans (iI_neg _), by omega, by omega, by omega⟩
theorem aTempR {σ : KS} {α : aA} (hok : aOk α) (hl : LT σ α) {c h p : Nat} (hc : c < aI α 0) (hh : h ≤ 20) (hp : p ≤ 6) : ∃ z : Int, kTemp (aFo α) σ c (nI h) (nI p) = iI z ∧ 0 ≤ z ∧ z ≤ 99 := by
  obtain ⟨z, a, b, c, -⟩ := aTemp hok hl hc (h := (h : Int)) (p := (p : Int)) ⟨by omega, by omega⟩ ⟨by omega, by omega⟩
  rw [iI_nat, iI_nat] at a
  exact ⟨z, a, b, c⟩
