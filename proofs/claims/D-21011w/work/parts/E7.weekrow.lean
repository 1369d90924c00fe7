/-! A WEEK: its rows, who sticks to whom -/
section WKT
variable {F : Nat → Option (aEnv → Int64)} {σ : KS} {gu : Int32}
/-- how many kilns fire of the first -/
def wCn (F : Nat → Option (aEnv → Int64)) (σ : KS) : Nat → Nat
  | 0 => 0
  | n + 1 => if iI (kI σ 41 n) = -1 ∨ kFull σ n = 0 ∨ wL F σ n < kBurn F σ n then wCn F σ n else wCn F σ n + 1
theorem wCn_y {n : Nat} (h : wF F σ n) : wCn F σ (n + 1) = wCn F σ n + 1 := if_neg h
theorem wCn_n {n : Nat} (h : ¬ wF F σ n) : wCn F σ (n + 1) = wCn F σ n := if_pos (Classical.not_not.mp h)
theorem wL_y {n : Nat} (h : wF F σ n) : wL F σ (n + 1) = wL F σ n - kBurn F σ n := if_neg h
theorem wL_n {n : Nat} (h : ¬ wF F σ n) : wL F σ (n + 1) = wL F σ n := if_pos (Classical.not_not.mp h)
theorem wCn_le : ∀ n m, wCn F σ n ≤ wCn F σ (n + m)
  | n, 0 => Nat.le_refl _
  | n, m + 1 => by
    refine Nat.le_trans (wCn_le n m) ?_
    show _ ≤ wCn F σ (n + m + 1)
    by_cases h : wF F σ (n + m)
    · rw [wCn_y h]; omega
    · rw [wCn_n h]; exact Nat.le_refl _
theorem wCn_n3 : ∀ n, wCn F σ n ≤ n
  | 0 => Nat.le_refl _
  | n + 1 => by
    have := wCn_n3 n
    by_cases h : wF F σ n
    · rw [wCn_y h]; omega
    · rw [wCn_n h]; omega
/-- how many crack in a firing -/
def wK (F : Nat → Option (aEnv → Int64)) (σ : KS) (gu : Int32) (q : Nat) : Nat := kCk σ q (fun c p => wC F σ gu c q p) (kA σ 25 q)
def wRow (F : Nat → Option (aEnv → Int64)) (σ : KS) (gu : Int32) (q : Nat) : Nat → Int := kRow (kI σ 3 0) q (kHt σ q gu).toInt (wK F σ gu q)
theorem kCk_eq {σ1 σ2 : KS} {q : Nat} {k1 k2 : Nat → Nat → Int32} : ∀ {n : Nat}, (∀ p, p < n → kO σ1 1 q p = kO σ2 1 q p) → (∀ p c, p < n → kO σ2 1 q p = some c → k1 c p = k2 c p) → kCk σ1 q k1 n = kCk σ2 q k2 n
  | 0, _, _ => rfl
  | n + 1, h1, h2 => by
    have ih := kCk_eq (n := n) (fun p hp => h1 p (by omega)) (fun p c hp => h2 p c (by omega))
    cases e : kO σ2 1 q n with
    | none => rw [kCk_n e, kCk_n ((h1 n (by omega)).trans e), ih]
    | some c =>
      by_cases z : k2 c n = 0
      · rw [kCk_0 e z, kCk_0 ((h1 n (by omega)).trans e) ((h2 n c (by omega) e).trans z), ih]
      · rw [kCk_1 e z, kCk_1 ((h1 n (by omega)).trans e) (by rw [h2 n c (by omega) e]; exact z), ih]
theorem kWr_at (hp : KPl σ) (h8 : kA σ 61 0 ≤ 8) (h3 : kA σ 62 0 ≤ 3) (h4 : kI σ 4 0 = 0) : ∀ n, n ≤ kA σ 62 0 → (kWr F gu σ n).length = wCn F σ n ∧ ∀ q, q < n → wF F σ q → (kWr F gu σ n)[wCn F σ q]? = some (wRow F σ gu q) := by
  intro n
  induction n with
  | zero => intro _; exact ⟨rfl, fun q hq => absurd hq (Nat.not_lt_zero q)⟩
  | succ n ih =>
    intro hn
    obtain ⟨i1, i2⟩ := ih (by omega)
    have hR := wkN (F := F) (gu := gu) hp h8 h3 n (by omega)
    have hA : kA (kWkN F gu σ n) = kA σ := kA_kWkN σ n
    have hB : kBq σ (kWkN F gu σ n) := kWkN_b σ n
    obtain ⟨a1, a2, a3, a4⟩ := hR.at hA hB
    have hO1 : ∀ p, kO (kWkN F gu σ n) 1 n p = kO σ 1 n p := fun p => (hR.2.2.1 n p).2 (fun w => absurd w.1 (Nat.lt_irrefl n))
    have hP := (kWkN_P (F := F) (gu := gu) hp n (by omega)).1
    unfold kWr
    rw [a1, a2, a3, hR.1, h4]
    by_cases hw : wF F σ n
    · rw [if_neg (fun w => w.elim (fun e => hw (Or.inl e)) (fun w => w.elim (fun e => hw (Or.inr (Or.inl e))) (fun w => w.elim (fun e => hw (Or.inr (Or.inr e))) (fun e => e rfl)))), List.length_append, i1, wCn_y hw]
      refine ⟨rfl, fun q hq hf => ?_⟩
      by_cases e : q = n
      · subst e
        rw [← i1, List.getElem?_append_right (Nat.le_refl _), Nat.sub_self]
        show some (kRw F (kWkN F gu σ q) q gu) = _
        congr 1
        unfold kRw wRow wK
        rw [a4, hB.1, hA]
        congr 2
        refine kCk_eq (fun p _ => hO1 p) (fun p c _ e => ?_)
        have hpu : KPl (kPaid F (kWkN F gu σ q) q) := KPl_is hP (by decide) _ _
        rw [(kBT_at (F := F) hpu ((hO1 p).trans e)).2]
        have hBu : kBq σ (kPaid F (kWkN F gu σ q) q) := ⟨(kPaid_I _ q (by decide) 0).trans hB.1, fun c => ⟨(kPaid_I _ q (by decide) c).trans (hB.2 c).1, (kPaid_I _ q (by decide) c).trans (hB.2 c).2⟩⟩
        rw [hBu.crack]
        rfl
      · have hlt : wCn F σ q < wCn F σ n := by
          have := wCn_le (F := F) (σ := σ) (q + 1) (n - (q + 1))
          rw [show q + 1 + (n - (q + 1)) = n by omega, wCn_y hf] at this
          omega
        rw [List.getElem?_append_left (by rw [i1]; exact hlt)]
        exact i2 q (by omega) hf
    · have hw' := Classical.not_not.mp hw
      rw [if_pos (hw'.elim Or.inl (fun w => Or.inr (w.elim Or.inl (fun e => Or.inr (Or.inl e))))), List.append_nil, i1, wCn_n hw]
      refine ⟨rfl, fun q hq hf => i2 q ?_ hf⟩
      by_cases e : q = n
      · subst e; exact absurd hf hw
      · omega
theorem wK_n (hp : KPl σ) (q : Nat) : wK F σ gu q = sm (fun c => if kO σ 0 c 0 = some q ∧ ¬ wC F σ gu c q (kI σ 33 c).toNat = 0 then 1 else 0) (kA σ 61 0) := by
  have hk : ∀ n, kCk σ q (fun c p => wC F σ gu c q p) n = sm (fun p => sm (fun c => if kO σ 1 q p = some c ∧ ¬ wC F σ gu c q p = 0 then 1 else 0) (kA σ 61 0)) n := by
    intro n
    induction n with
    | zero => rfl
    | succ n ih =>
      show _ = sm (fun p => sm (fun c => if kO σ 1 q p = some c ∧ ¬ wC F σ gu c q p = 0 then 1 else 0) (kA σ 61 0)) n + sm (fun c => if kO σ 1 q n = some c ∧ ¬ wC F σ gu c q n = 0 then 1 else 0) (kA σ 61 0)
      rw [← ih]
      cases e : kO σ 1 q n with
      | none =>
        rw [kCk_n e, sm_ext (g := fun _ => 0) (fun c _ => if_neg (fun w => by cases w.1)), sm_z]
        rfl
      | some d =>
        have hd := ((hp.1 q n d).mp e).1
        by_cases z : wC F σ gu d q n = 0
        · rw [kCk_0 e z, sm_ext (g := fun _ => 0) (fun c _ => if_neg (fun w => by
            have e1 := w.1; cases e1; exact w.2 z)), sm_z]
          rfl
        · rw [kCk_1 e z, sm_ext (g := fun c => if c = d then 1 else 0) (fun c _ => by
            by_cases w : c = d
            · rw [if_pos w, if_pos ⟨by rw [w], by rw [w]; exact z⟩]
            · rw [if_neg w, if_neg (fun v => w (by have := v.1; cases this; rfl))]), sm_one, if_pos hd]
  unfold wK
  rw [hk, sm_swap]
  refine sm_ext fun c hc => ?_
  by_cases hk : kO σ 0 c 0 = some q
  · obtain ⟨-, p, h2, h3⟩ := hp.2.1 c q hc hk
    have e33 : (kI σ 33 c).toNat = p := by omega
    rw [e33]
    by_cases z : wC F σ gu c q p = 0
    · rw [if_neg (fun w => w.2 z), sm_ext (g := fun _ => 0) (fun j _ => if_neg (fun v => by
        have := ((hp.1 q j c).mp v.1).2.2
        have e : j = p := by omega
        rw [e] at v
        exact v.2 z)), sm_z]
    · rw [if_pos ⟨hk, z⟩, sm_ext (g := fun j => if j = p then 1 else 0) (fun j _ => by
        by_cases w : j = p
        · rw [if_pos w, w, if_pos ⟨(hp.1 q p c).mpr ⟨hc, hk, h3⟩, z⟩]
        · rw [if_neg w, if_neg (fun v => w (by have := ((hp.1 q j c).mp v.1).2.2; omega))]), sm_one, if_pos h2]
  · rw [if_neg (fun w => hk w.1), sm_ext (g := fun _ => 0) (fun j _ => if_neg (fun v => hk ((hp.1 q j c).mp v.1).2.1)), sm_z]
/-- the masks: of two fired children each, and of none that is raw -/
def KMk (σ : KS) : Prop := ∀ c, c < kA σ 61 0 → (∀ i, i < 32 → bt (iI (kI σ 35 c)) i = true → i < kA σ 61 0 ∧ i ≠ c ∧ bt (iI (kI σ 35 i)) c = true) ∧ (kI σ 34 c = -1 → ∀ i, i < 32 → bt (iI (kI σ 35 c)) i = false)
/-- who lies in a kiln is raw -/
def KRw (σ : KS) : Prop := ∀ c q, c < kA σ 61 0 → kO σ 0 c 0 = some q → kI σ 34 c = -1
/-- two places that stick -/
def wEd (F : Nat → Option (aEnv → Int64)) (σ : KS) (gu : Int32) (q p : Nat) : Prop := ∃ c d, kO σ 1 q p = some c ∧ kO σ 1 q (p + 1) = some d ∧ wS F σ gu q p c d
theorem wJ_row {n q p c i : Nat} (hp : KPl σ) (hc : kO σ 1 q p = some c) (h : wJ F σ gu n c i) : wJq F σ gu q p c i ∨ (0 < p ∧ wJq F σ gu q (p - 1) c i) := by
  obtain ⟨q2, p2, a, b, d⟩ := h
  have hc' := (hp.1 q p c).mp hc
  rcases d with d | d
  · have e := (hp.1 q2 p2 c).mp d.1
    have e1 : q2 = q := by have := e.2.1; rw [hc'.2.1] at this; exact (Option.some.inj this).symm
    have e2 : p2 = p := by have := e.2.2; omega
    subst e1; subst e2
    exact Or.inl (Or.inl d)
  · have e := (hp.1 q2 (p2 + 1) c).mp d.2.1
    have e1 : q2 = q := by have := e.2.1; rw [hc'.2.1] at this; exact (Option.some.inj this).symm
    have e2 : p = p2 + 1 := by have := e.2.2; omega
    subst e1; subst e2
    exact Or.inr ⟨by omega, Or.inr d⟩
theorem runBr (hp : KPl σ) (h8 : kA σ 61 0 ≤ 8) (hM : KMk σ) (hr : KRw σ) {ρ : KS} {n : Nat} (h61 : kA ρ 61 0 = kA σ 61 0) (hW : ∀ c i, i < 32 → (bt (iI (kI ρ 35 c)) i = true ↔ bt (iI (kI σ 35 c)) i = true ∨ wJ F σ gu n c i)) {q p c : Nat} (hq : q < n) (hf : wF F σ q) (hc : kO σ 1 q p = some c) {jl jr : Nat} (hjl : jl ≤ p) (hE : ∀ i, p - jl ≤ i → i < p + jr → wEd F σ gu q i) (hL : p - jl = 0 ∨ ¬ wEd F σ gu q (p - jl - 1)) (hR : ¬ wEd F σ gu q (p + jr)) {S : Int32} (hS : ∀ i, i < 32 → (bt S i = true ↔ ∃ p', p - jl ≤ p' ∧ p' ≤ p + jr ∧ kO σ 1 q p' = some i)) : kBr ρ c S := by
  have hn : ∀ p' x, kO σ 1 q p' = some x → x < kA σ 61 0 := fun p' x e => ((hp.1 q p' x).mp e).1
  have hc32 : c < 32 := by have := hn p c hc; omega
  have hm : ∀ p' x y, kO σ 1 q p' = some x → kO σ 1 q (p' + 1) = some y → wS F σ gu q p' x y → bt (iI (kI ρ 35 x)) y = true ∧ bt (iI (kI ρ 35 y)) x = true := fun p' x y e1 e2 s => by
    have hx := hn _ _ e1
    have hy := hn _ _ e2
    exact ⟨(hW x y (by omega)).mpr (Or.inr ⟨q, p', hq, hf, Or.inl ⟨e1, e2, s⟩⟩), (hW y x (by omega)).mpr (Or.inr ⟨q, p', hq, hf, Or.inr ⟨e1, e2, s⟩⟩)⟩
  refine ⟨(hS c hc32).mpr ⟨p, by omega, by omega, hc⟩, fun k hk hb i hi hbi => ?_, fun T hT hcl => ?_⟩
  · rw [h61] at hk
    obtain ⟨p', b1, b2, b3⟩ := (hS k (by omega)).mp hb
    have hkq := ((hp.1 q p' k).mp b3).2.1
    rcases (hW k i hi).mp hbi with w | w
    · rw [(hM k hk).2 (hr k q hk hkq) i hi] at w
      cases w
    · refine (hS i hi).mpr ?_
      rcases wJ_row hp b3 w with (w | w) | ⟨w0, w | w⟩
      · refine ⟨p' + 1, by omega, ?_, w.2.1⟩
        by_cases e : p' = p + jr
        · exact absurd ⟨k, i, by rw [← e]; exact w.1, by rw [← e]; exact w.2.1, by rw [← e]; exact w.2.2⟩ hR
        · omega
      · have := ((hp.1 q (p' + 1) k).mp w.2.1).2.2
        have := ((hp.1 q p' k).mp b3).2.2
        omega
      · have := ((hp.1 q (p' - 1) k).mp w.1).2.2
        have := ((hp.1 q p' k).mp b3).2.2
        omega
      · refine ⟨p' - 1, ?_, by omega, w.1⟩
        by_cases e : p' = p - jl
        · rcases hL with v | v
          · omega
          · exact absurd ⟨i, k, by rw [← e]; exact w.1, by rw [← e]; exact w.2.1, by rw [← e]; exact w.2.2⟩ v
        · omega
  · have right : ∀ m, m ≤ jr → ∀ x, kO σ 1 q (p + m) = some x → bt T x = true := by
      intro m
      induction m with
      | zero => intro _ x e; rw [Nat.add_zero, hc] at e; cases e; exact hT
      | succ m ih =>
        intro hmj x e
        obtain ⟨c1, d1, e1, e2, s⟩ := hE (p + m) (by omega) (by omega)
        have e3 : d1 = x := by rw [show p + (m + 1) = p + m + 1 by omega, e2] at e; exact Option.some.inj e
        subst e3
        have hx := hn _ _ e2
        have hx1 := hn _ _ e1
        exact hcl c1 (by rw [h61]; exact hx1) (ih (by omega) c1 e1) d1 (by omega) (hm _ _ _ e1 e2 s).1
    have left : ∀ m, m ≤ jl → ∀ x, kO σ 1 q (p - m) = some x → bt T x = true := by
      intro m
      induction m with
      | zero => intro _ x e; rw [Nat.sub_zero, hc] at e; cases e; exact hT
      | succ m ih =>
        intro hmj x e
        obtain ⟨c1, d1, e1, e2, s⟩ := hE (p - (m + 1)) (by omega) (by omega)
        rw [show p - (m + 1) + 1 = p - m by omega] at e2
        have e3 : c1 = x := by rw [e1] at e; exact Option.some.inj e
        subst e3
        have hx := hn _ _ e2
        have hx1 := hn _ _ e1
        exact hcl d1 (by rw [h61]; exact hx) (ih (by omega) d1 e2) c1 (by omega) (hm (p - (m + 1)) _ _ e1 (by rw [show p - (m + 1) + 1 = p - m by omega]; exact e2) s).2
    intro i hi hb
    obtain ⟨p', b1, b2, b3⟩ := (hS i hi).mp hb
    by_cases e : p ≤ p'
    · exact right (p' - p) (by omega) i (by rw [show p + (p' - p) = p' by omega]; exact b3)
    · exact left (p - p') (by omega) i (by rw [show p - (p - p') = p' by omega]; exact b3)
end WKT
