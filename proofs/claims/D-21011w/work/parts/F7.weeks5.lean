/-! SEVERAL WEEKS, closed -/
section GSN
variable {F : Nat → Option (aEnv → Int64)} {σ : KS}
/-- a kiln fires in a week -/
def fw (F : Nat → Option (aEnv → Int64)) (σ : KS) (j q : Nat) : Prop := q < kA σ 62 0 ∧ wF F (kGs F σ j) q
theorem gsR (hp : KPl σ) (h8 : kA σ 61 0 ≤ 8) (h3 : kA σ 62 0 ≤ 3) (j : Nat) : WkR F (kGs F σ j) 0 (kA σ 62 0) (kGs F σ (j + 1)) := by
  have hA : kA (kGs F σ j) = kA σ := kA_kGs j
  have h := wkN (F := F) (gu := 0) (σ := kGs F σ j) (kGs_P hp j).1 (by rw [hA]; exact h8) (by rw [hA]; exact h3) (kA σ 62 0) (by rw [hA]; exact Nat.le_refl _)
  have e : kGs F σ (j + 1) = kIs (kWkN F 0 (kGs F σ j) (kA σ 62 0)) 3 0 (kI (kGs F σ j) 3 0 + 1) := by
    show kWk F 0 (kGs F σ j) = _
    unfold kWk
    rw [hA]
  rw [e]
  exact h
theorem fw_b (hp : KPl σ) (h8 : kA σ 61 0 ≤ 8) (h3 : kA σ 62 0 ≤ 3) {j q : Nat} (hq : q < kA σ 62 0) : kFb F σ q j ↔ fw F σ j q := by
  have h := (gsR (F := F) hp h8 h3 j).2.2.2.2.2.2.2 q (by omega)
  show bt (iI (kI (kGs F σ (j + 1)) 5 0)) q = true ↔ _
  rw [h]
  exact Iff.rfl
/-- a kiln before a week: as it was, or fired before -/
theorem gs_q (hp : KPl σ) (h8 : kA σ 61 0 ≤ 8) (h3 : kA σ 62 0 ≤ 3) (q : Nat) : ∀ n, ((∃ i, i < n ∧ fw F σ i q) → kI (kGs F σ n) 41 q = -1 ∧ ∀ p, kO (kGs F σ n) 1 q p = none) ∧ ((¬ ∃ i, i < n ∧ fw F σ i q) → kI (kGs F σ n) 41 q = kI σ 41 q ∧ ∀ p, kO (kGs F σ n) 1 q p = kO σ 1 q p) := by
  intro n
  induction n with
  | zero => exact ⟨fun ⟨i, h, _⟩ => absurd h (Nat.not_lt_zero i), fun _ => ⟨rfl, fun p => rfl⟩⟩
  | succ n ih =>
    have hR := gsR (F := F) hp h8 h3 n
    have a1 := hR.2.1 q
    have a2 := hR.2.2.1 q
    by_cases hf : q < kA σ 62 0 ∧ wF F (kGs F σ n) q
    · refine ⟨fun _ => ⟨a1.1 hf, fun p => (a2 p).1 hf⟩, fun h => absurd ⟨n, by omega, hf⟩ h⟩
    · have e : (∃ i, i < n + 1 ∧ fw F σ i q) ↔ ∃ i, i < n ∧ fw F σ i q := ⟨fun ⟨i, h, w⟩ => by
        by_cases v : i = n
        · subst v; exact absurd w hf
        · exact ⟨i, by omega, w⟩, fun ⟨i, h, w⟩ => ⟨i, by omega, w⟩⟩
      rw [e, a1.2 hf]
      refine ⟨fun h => ⟨(ih.1 h).1, fun p => ((a2 p).2 hf).trans ((ih.1 h).2 p)⟩, fun h => ⟨(ih.2 h).1, fun p => ((a2 p).2 hf).trans ((ih.2 h).2 p)⟩⟩
/-- a kiln fires once -/
theorem fw_once (hp : KPl σ) (h8 : kA σ 61 0 ≤ 8) (h3 : kA σ 62 0 ≤ 3) {i j q : Nat} (h1 : fw F σ i q) (h2 : fw F σ j q) : i = j := by
  have key : ∀ i j, i < j → fw F σ i q → fw F σ j q → False := fun i j hij a b => by
    have h := ((gs_q (F := F) hp h8 h3 q j).1 ⟨i, hij, a⟩).1
    exact b.2 (Or.inl (by rw [h]; rfl))
  rcases Nat.lt_trichotomy i j with w | w | w
  · exact absurd (key i j w h1 h2) id
  · exact w
  · exact absurd (key j i w h2 h1) id
/-- what fired() says of it -/
theorem kFnd_n (hp : KPl σ) (h8 : kA σ 61 0 ≤ 8) (h3 : kA σ 62 0 ≤ 3) {q : Nat} (hq : q < kA σ 62 0) {x : Int32} (h : kFnd F σ q 40 x) {n : Nat} (hn : n ≤ 40) : ((0 ≤ x ∧ x < nI n) ↔ ∃ j, j < n ∧ fw F σ j q) ∧ ∀ j, j < n → fw F σ j q → x = nI j := by
  rcases h with ⟨a, b⟩ | ⟨j, a, b, c, d⟩
  · refine ⟨⟨fun w => ?_, fun ⟨j, j1, j2⟩ => absurd ((fw_b hp h8 h3 hq).mpr j2) (b j (by omega))⟩, fun j j1 j2 => absurd ((fw_b hp h8 h3 hq).mpr j2) (b j (by omega))⟩
    rw [a] at w; exact absurd w.1 (by decide)
  · have hf := (fw_b hp h8 h3 hq).mp c
    refine ⟨⟨fun w => ⟨j, ?_, hf⟩, fun ⟨i, i1, i2⟩ => ?_⟩, fun i i1 i2 => ?_⟩
    · rw [b] at w
      exact (nI_ltI (by omega) (by omega)).mp w.2
    · have e := fw_once hp h8 h3 i2 hf
      subst e
      rw [b]
      exact ⟨nI_le (a := 0) (Nat.zero_le _) (by omega), (nI_ltI (by omega) (by omega)).mpr i1⟩
    · have e := fw_once hp h8 h3 i2 hf
      subst e
      exact b
/-! the rows in their order -/
theorem wr_ord (hp : KPl σ) (h8 : kA σ 61 0 ≤ 8) (h3 : kA σ 62 0 ≤ 3) (h4 : kI σ 4 0 = 0) {gu : Int32} : ∃ f : Nat → Nat, ∀ i, i < (kWr F gu σ (kA σ 62 0)).length → f i < kA σ 62 0 ∧ wF F σ (f i) ∧ (kWr F gu σ (kA σ 62 0))[i]? = some (wRow F σ gu (f i)) ∧ ∀ i', i' < i → f i' < f i := by
  obtain ⟨hlen, hat⟩ := kWr_at (F := F) (gu := gu) hp h8 h3 h4 (kA σ 62 0) (Nat.le_refl _)
  have key : ∀ m, m ≤ kA σ 62 0 → ∃ f : Nat → Nat, ∀ i, i < wCn F σ m → f i < m ∧ wF F σ (f i) ∧ wCn F σ (f i) = i ∧ ∀ i', i' < i → f i' < f i := by
    intro m
    induction m with
    | zero => intro _; exact ⟨fun _ => 0, fun i hi => absurd hi (Nat.not_lt_zero i)⟩
    | succ m ih =>
      intro hm
      obtain ⟨f, hf⟩ := ih (by omega)
      by_cases hw : wF F σ m
      · refine ⟨fun i => if i < wCn F σ m then f i else m, fun i hi => ?_⟩
        rw [wCn_y hw] at hi
        dsimp only
        by_cases e : i < wCn F σ m
        · obtain ⟨a, b, c, d⟩ := hf i e
          rw [if_pos e]
          refine ⟨by omega, b, c, fun i' hi' => ?_⟩
          rw [if_pos (by omega)]
          exact d i' hi'
        · rw [if_neg e]
          refine ⟨by omega, hw, by omega, fun i' hi' => ?_⟩
          rw [if_pos (by omega)]
          exact (hf i' (by omega)).1
      · refine ⟨f, fun i hi => ?_⟩
        rw [wCn_n hw] at hi
        obtain ⟨a, b, c, d⟩ := hf i hi
        exact ⟨by omega, b, c, d⟩
  obtain ⟨f, hf⟩ := key (kA σ 62 0) (Nat.le_refl _)
  refine ⟨f, fun i hi => ?_⟩
  rw [hlen] at hi
  obtain ⟨a, b, c, d⟩ := hf i hi
  refine ⟨a, b, ?_, d⟩
  have := hat (f i) a b
  rw [c] at this
  exact this
theorem rs_ord (hp : KPl σ) (h8 : kA σ 61 0 ≤ 8) (h3 : kA σ 62 0 ≤ 3) (h4 : kI σ 4 0 = 0) : ∀ n, ∃ f : Nat → Nat × Nat, ∀ i, i < (kRs F σ n).length → (f i).1 < n ∧ fw F σ (f i).1 (f i).2 ∧ (kRs F σ n)[i]? = some (wRow F (kGs F σ (f i).1) 0 (f i).2) ∧ ∀ i', i' < i → 3 * (f i').1 + (f i').2 < 3 * (f i).1 + (f i).2 := by
  intro n
  induction n with
  | zero => exact ⟨fun _ => (0, 0), fun i hi => absurd hi (Nat.not_lt_zero i)⟩
  | succ n ih =>
    obtain ⟨f, hf⟩ := ih
    have hA : kA (kGs F σ n) = kA σ := kA_kGs n
    obtain ⟨g, hg⟩ := wr_ord (F := F) (gu := 0) (σ := kGs F σ n) (kGs_P hp n).1 (by rw [hA]; exact h8) (by rw [hA]; exact h3) (by rw [kI4_kGs]; exact h4)
    show ∃ f : Nat → Nat × Nat, ∀ i, i < (kRs F σ n ++ kWr F 0 (kGs F σ n) (kA (kGs F σ n) 62 0)).length → (f i).1 < n + 1 ∧ fw F σ (f i).1 (f i).2 ∧ (kRs F σ n ++ kWr F 0 (kGs F σ n) (kA (kGs F σ n) 62 0))[i]? = some (wRow F (kGs F σ (f i).1) 0 (f i).2) ∧ ∀ i', i' < i → 3 * (f i').1 + (f i').2 < 3 * (f i).1 + (f i).2
    refine ⟨fun i => if i < (kRs F σ n).length then f i else (n, g (i - (kRs F σ n).length)), fun i hi => ?_⟩
    rw [List.length_append] at hi
    dsimp only
    by_cases e : i < (kRs F σ n).length
    · obtain ⟨a, b, c, d⟩ := hf i e
      rw [if_pos e, List.getElem?_append_left e]
      refine ⟨by omega, b, c, fun i' hi' => ?_⟩
      rw [if_pos (by omega)]
      exact d i' hi'
    · obtain ⟨a, b, c, d⟩ := hg (i - (kRs F σ n).length) (by omega)
      rw [if_neg e, List.getElem?_append_right (by omega)]
      refine ⟨by (try dsimp only); omega, ⟨by rw [hA] at a; exact a, b⟩, c, fun i' hi' => ?_⟩
      by_cases e2 : i' < (kRs F σ n).length
      · rw [if_pos e2]
        obtain ⟨a2, b2, -⟩ := hf i' e2
        have := b2.1
        (try dsimp only)
        omega
      · rw [if_neg e2]
        have := d (i' - (kRs F σ n).length) (by omega)
        (try dsimp only)
        omega
/-! how many -/
theorem jb_w {x : Int32} {K : Nat} (h3 : K ≤ 3) {w : Nat → Nat} (hW : ∀ i, i < 32 → (bt x i = true ↔ i < K ∧ w i = 1)) (hw : ∀ i, w i = 0 ∨ w i = 1) : jbits x = nI (sm w K) := by
  rw [jb_3 (fun i hi hb => by have := ((hW i hi).mp hb).1; omega)]
  congr 1
  have hb : ∀ i, i < 32 → (if bt x i then 1 else 0 : Nat) = if i < K then w i else 0 := fun i hi => by
    cases hv : bt x i with
    | true =>
      have := (hW i hi).mp hv
      rw [if_pos rfl, if_pos this.1, this.2]
    | false =>
      rw [if_neg (by decide)]
      by_cases hlt : i < K
      · rw [if_pos hlt]
        rcases hw i with e | e
        · exact e.symm
        · rw [(hW i hi).mpr ⟨hlt, e⟩] at hv; cases hv
      · rw [if_neg hlt]
  rw [hb 0 (by decide), hb 1 (by decide), hb 2 (by decide)]
  match K, h3 with
  | 0, _ => rfl
  | 1, _ => show w 0 + 0 + 0 = 0 + w 0; omega
  | 2, _ => show w 0 + w 1 + 0 = 0 + w 0 + w 1; omega
  | 3, _ => show w 0 + w 1 + w 2 = 0 + w 0 + w 1 + w 2; omega
  | n + 4, h => omega
theorem wb_01 (q : Nat) : wb F σ q = 0 ∨ wb F σ q = 1 := by
  by_cases h : wF F σ q
  · exact Or.inr (wb_y h)
  · exact Or.inl (wb_n h)
theorem wb_iff (q : Nat) : wb F σ q = 1 ↔ wF F σ q := by
  by_cases h : wF F σ q
  · exact ⟨fun _ => h, fun _ => wb_y h⟩
  · rw [wb_n h]; exact ⟨fun e => absurd e (by decide), fun e => absurd e h⟩
theorem kSm_n (hp : KPl σ) (h8 : kA σ 61 0 ≤ 8) (h3 : kA σ 62 0 ≤ 3) : ∀ n, kSm F σ n = nI (sm (fun j => wCn F (kGs F σ j) (kA σ 62 0)) n)
  | 0 => rfl
  | n + 1 => by
    show kSm F σ n + jbits (iI (kI (kGs F σ (n + 1)) 5 0)) = nI (sm (fun j => wCn F (kGs F σ j) (kA σ 62 0)) n + wCn F (kGs F σ n) (kA σ 62 0))
    rw [kSm_n hp h8 h3 n, jb_w h3 (w := wb F (kGs F σ n)) (fun i hi => by
      rw [(gsR (F := F) hp h8 h3 n).2.2.2.2.2.2.2 i hi, wb_iff]) (fun i => wb_01 i), nI_add, wCn_sm]
theorem kRs_len (hp : KPl σ) (h8 : kA σ 61 0 ≤ 8) (h3 : kA σ 62 0 ≤ 3) (h4 : kI σ 4 0 = 0) : ∀ n, (kRs F σ n).length = sm (fun j => wCn F (kGs F σ j) (kA σ 62 0)) n
  | 0 => rfl
  | n + 1 => by
    have hA : kA (kGs F σ n) = kA σ := kA_kGs n
    show (kRs F σ n ++ kWr F 0 (kGs F σ n) (kA (kGs F σ n) 62 0)).length = sm (fun j => wCn F (kGs F σ j) (kA σ 62 0)) n + wCn F (kGs F σ n) (kA σ 62 0)
    rw [List.length_append, kRs_len hp h8 h3 h4 n, (kWr_at (F := F) (gu := 0) (σ := kGs F σ n) (kGs_P hp n).1 (by rw [hA]; exact h8) (by rw [hA]; exact h3) (by rw [kI4_kGs]; exact h4) (kA (kGs F σ n) 62 0) (Nat.le_refl _)).1, hA]
theorem many_n (hp : KPl σ) (h8 : kA σ 61 0 ≤ 8) (h3 : kA σ 62 0 ≤ 3) (n : Nat) {m : Nat → Nat} (hm : ∀ q, q < kA σ 62 0 → ((∃ j, j < n ∧ fw F σ j q) → m q = 1) ∧ ((¬ ∃ j, j < n ∧ fw F σ j q) → m q = 0)) : sm (fun j => wCn F (kGs F σ j) (kA σ 62 0)) n = sm m (kA σ 62 0) := by
  have e : sm (fun j => wCn F (kGs F σ j) (kA σ 62 0)) n = sm (fun j => sm (wb F (kGs F σ j)) (kA σ 62 0)) n := sm_ext (fun j _ => wCn_sm _)
  rw [e, sm_swap]
  refine sm_ext (fun q hq => ?_)
  by_cases hx : ∃ j, j < n ∧ fw F σ j q
  · rw [(hm q hq).1 hx]
    obtain ⟨j, hj, hf⟩ := hx
    rw [sm_ext (g := fun i => if i = j then 1 else 0) (fun i _ => by
      by_cases w : i = j
      · rw [if_pos w, w]; exact wb_y hf.2
      · rw [if_neg w]; exact wb_n (fun v => w (fw_once hp h8 h3 ⟨hq, v⟩ hf))), sm_one, if_pos hj]
  · rw [(hm q hq).2 hx, sm_ext (g := fun _ => 0) (fun i hi => wb_n (fun v => hx ⟨i, hi, hq, v⟩)), sm_z]
end GSN
