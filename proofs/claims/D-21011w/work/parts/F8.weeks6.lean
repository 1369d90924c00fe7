/-! SEVERAL WEEKS, and the state between the acts -/
section WSL
variable {gF : xG} {α : aA} {d0 : Nat} {σ : KS}
theorem kXr_more {X : KD} {R : List (Nat → Int)} (h : kXr σ X R d0) : ∀ (R2 : List (Nat → Int)), X.2.1 + R2.length ≤ 10 → ∀ R0 X0, kXr σ X0 R0 d0 → X0.2.1 = X.2.1 → ∃ Y, kXr σ Y (R0 ++ R2) d0
  | [], _, R0, X0, h0, _ => ⟨X0, by rw [List.append_nil]; exact h0⟩
  | r :: t, hl, R0, X0, h0, e => by
    have hl2 : X.2.1 + (t.length + 1) ≤ 10 := hl
    have h1 := kXr_s h0 (by rw [e]; omega) 0 0 r
    have e1 : (kDp X0 0 0 r).2.1 = X0.2.1 + 1 := rfl
    have := kXr_more h1 t (by rw [e1, e]; omega) (R0 ++ [r]) (kDp X0 0 0 r) h1 rfl
    rw [List.append_assoc] at this
    exact this
theorem kXr_ex (hT : KTc σ d0) {R : List (Nat → Int)} (h : kA σ 63 0 + R.length ≤ 10) : ∃ Y, kXr σ Y R d0 := by
  have h0 := kXr_0 (σ := σ) hT
  have := kXr_more h0 R h [] (kD σ) h0 rfl
  rw [List.nil_append] at this
  exact this
theorem LSt.td {τ : KS} {X Y : KD} {R : List (Nat → Int)} {f f2 : aEnv} (hX : kXr σ X R d0) (hY : kXr σ Y R d0) (hv : KV τ) (h : LSt gF α d0 (kT (kTd τ X) f)) : LSt gF α d0 (kT (kTd τ Y) f2) := by
  have e : Y.2.1 = X.2.1 := hY.1.trans hX.1.symm
  have hc : Y.2.1 ≤ Y.2.2.2.2.1 ∧ Y.2.2.2.2.1 < 1048576 := by
    rcases hY.2.2.2.1 with w | w <;> omega
  obtain ⟨⟨b1, b2, b3, b4, b5, b6, b7, b8, b9⟩, a2, a3, a4, a5, a6, a7, a8, a9, a10, a11, a12, a13⟩ := h
  refine ⟨⟨b1, kTd_V hv hc.1 hc.2, b3, b4, ⟨b5.1, fun i hi => ?_⟩, hY.2.2.2.1, b7, ?_, b9⟩, a2, a3, a4, a5, ?_, a7, a8, a9, a10, a11, a12, a13⟩
  · have := b5.2 i hi
    show kA (kTd τ Y) 66 i ≤ Y.2.1
    rw [e]
    exact this
  · show Y.2.1 ≤ 7
    rw [e]
    exact b8
  · show Y.2.1 ≤ _
    rw [e]
    exact a6
theorem weeks_L (hok : aOk α) (hL : LSt gF α d0 σ) (hwk : 0 ≤ kI σ 3 0) : ∀ n : Nat, kI σ 3 0 + n ≤ 901 → kA σ 63 0 + (kRs (aFo α) σ n).length ≤ 6 ∧ ∀ X f, kXr σ X (kRs (aFo α) σ n) d0 → LSt gF α d0 (kT (kTd (kGs (aFo α) σ n) X) f) ∧ ∀ c, c < kA σ 61 0 → ¬ kI σ 34 c = -1 → kI (kGs (aFo α) σ n) 34 c = kI σ 34 c := by
  have h6 : ∀ ρ, LSt gF α d0 ρ → kA ρ 63 0 ≤ 6 := fun ρ h => by
    have a := h.2.2.2.2.2.1
    have b : frd ρ (aI α 0) ≤ aI α 0 := frd_6
    have := hok.1
    omega
  intro n
  induction n with
  | zero =>
    intro _
    refine ⟨h6 σ hL, fun X f hX => ⟨?_, fun c _ _ => rfl⟩⟩
    have e : X = kD σ := hX.2.2.2.2 rfl
    subst e
    show LSt gF α d0 (kT (kTd σ (kD σ)) f)
    rw [kTd_kD]
    exact hL
  | succ n ih =>
    intro hn
    obtain ⟨i1, i2⟩ := ih (by omega)
    obtain ⟨Xn, hXn⟩ := kXr_ex (σ := σ) (d0 := d0) (R := kRs (aFo α) σ n) hL.1.2.2.2.2.2.1 (by omega)
    obtain ⟨hLn, hTn⟩ := i2 Xn (kL (kTd (kGs (aFo α) σ n) Xn) 0) hXn
    rw [kT_self] at hLn
    have h63 : kA (kTd (kGs (aFo α) σ n) Xn) 63 0 = kA σ 63 0 + (kRs (aFo α) σ n).length := hXn.1
    have hK3 : kA (kTd (kGs (aFo α) σ n) Xn) 62 0 ≤ 3 := hLn.1.2.1.1.2.1
    have hlen := kWr_len (F := aFo α) (gu := nI 0) (σ := kTd (kGs (aFo α) σ n) Xn) (kA (kTd (kGs (aFo α) σ n) Xn) 62 0)
    obtain ⟨Y, hY⟩ := kXr_ex (σ := kTd (kGs (aFo α) σ n) Xn) (d0 := d0) (R := kWr (aFo α) (nI 0) (kTd (kGs (aFo α) σ n) Xn) (kA (kTd (kGs (aFo α) σ n) Xn) 62 0)) hLn.1.2.2.2.2.2.1 (by rw [h63]; omega)
    have e3 : kI (kTd (kGs (aFo α) σ n) Xn) 3 0 = kI σ 3 0 + n := kI3_kGs σ n
    have hLY : ∀ f, LSt gF α d0 (kT (kTd (kGs (aFo α) σ (n + 1)) Y) f) := fun f => by
      have h := week_L (f := f) (st := 0) hok (by decide) (by rw [e3]; omega) hLn hY
      rw [show nI 0 = (0 : Int32) from rfl, kWk_kTd, kTd_kTd] at h
      exact h
    have hR : kWr (aFo α) (nI 0) (kTd (kGs (aFo α) σ n) Xn) (kA (kTd (kGs (aFo α) σ n) Xn) 62 0) = kWr (aFo α) 0 (kGs (aFo α) σ n) (kA (kGs (aFo α) σ n) 62 0) := by
      rw [kWr_kTd]
      rfl
    rw [hR] at hY
    have hXY : kXr σ Y (kRs (aFo α) σ (n + 1)) d0 := kXr_trans hXn hY
    have h63Y : Y.2.1 ≤ 6 := h6 _ (hLY (kL σ 0))
    refine ⟨by rw [← hXY.1]; exact h63Y, fun X f hX => ⟨LSt.td hXY hX (kGs_V hL.1.2.1 _) (hLY f), fun c hc hn2 => ?_⟩⟩
    rw [← hTn c hc hn2]
    have hA : kA (kGs (aFo α) σ n) = kA σ := kA_kGs n
    have hw := hL.1.2.1.1
    have hRn : KRw (kGs (aFo α) σ n) := hLn.2.2.2.2.1
    exact week_T (kGs_P hL.1.2.2.1 n).1 hRn (gsR (F := aFo α) hL.1.2.2.1 hw.1 hw.2.1 n) (by rw [hA]; exact hc) (by rw [hTn c hc hn2]; exact hn2)
theorem weeks_A (hL : LSt gF α d0 σ) {X : KD} {f : aEnv} (n : Nat) (hX : kXr σ X (kRs (aFo α) σ n) d0) : Af σ (kT (kTd (kGs (aFo α) σ n) X) f) d0 := by
  obtain ⟨⟨hF, hv, hp, hN, hR, hT, hAc, h7, h4⟩, -⟩ := hL
  have hTR : kTR σ (kGs (aFo α) σ n) (kTd (kGs (aFo α) σ n) X) (kRs (aFo α) σ n) d0 := ⟨X, rfl, hX⟩
  obtain ⟨hP, hU⟩ := kGs_P (F := aFo α) hp n
  refine ⟨fun f k a b c d => hTR.A (kA_kGs n) k a b c d, fun f k h16 hm => ?_, fun f k j a b => hU.2.2.1 f k j a b, fun f k j h2 => ?_, hTR.cap, ?_, fun k hk => (hX.2.1 k hk).2, hTR.V (kGs_V hv n), hP, ?_⟩
  · show (if f = 16 ∧ k = 0 then X.1 else kI (kGs (aFo α) σ n) f k) = _
    rw [if_neg (fun w => h16 w.1)]
    exact hU.2.1 f k hm
  · show (if f = 2 then X.2.2.2.2.2 k j else kV (kGs (aFo α) σ n) f k j) = _
    rw [if_neg h2, hU.2.2.2.1]
  · have := hTR.len
    show kA σ 63 0 ≤ kA (kTd (kGs (aFo α) σ n) X) 63 0
    omega
  · show kI (kGs (aFo α) σ n) 4 0 = 0
    rw [kI4_kGs]; exact h4
/-- how often a kiln fires in n weeks -/
def mN (F : Nat → Option (aEnv → Int64)) (σ : KS) (n q : Nat) : Nat := sm (fun j => wb F (kGs F σ j) q) n
theorem mN_y {F : Nat → Option (aEnv → Int64)} (hp : KPl σ) (h8 : kA σ 61 0 ≤ 8) (h3 : kA σ 62 0 ≤ 3) {n q : Nat} (hq : q < kA σ 62 0) : ((∃ j, j < n ∧ fw F σ j q) → mN F σ n q = 1) ∧ ((¬ ∃ j, j < n ∧ fw F σ j q) → mN F σ n q = 0) := by
  unfold mN
  refine ⟨fun ⟨j, hj, hf⟩ => ?_, fun hx => ?_⟩
  · rw [sm_ext (g := fun i => if i = j then 1 else 0) (fun i _ => by
      by_cases w : i = j
      · rw [if_pos w, w]; exact wb_y hf.2
      · rw [if_neg w]; exact wb_n (fun v => w (fw_once hp h8 h3 ⟨hq, v⟩ hf))), sm_one, if_pos hj]
  · rw [sm_ext (g := fun _ => 0) (fun i hi => wb_n (fun v => hx ⟨i, hi, hq, v⟩)), sm_z]
/-- n weeks gone by: what is seen of it -/
def Nsd (F : Nat → Option (aEnv → Int64)) (σ : KS) (n : Nat) (ρ : KS) : Prop := kI ρ 7 0 = kI (kGs F σ n) 7 0 ∧ kI ρ 3 0 = kI σ 3 0 + n ∧ kA ρ 63 0 = kA σ 63 0 + sm (mN F σ n) (kA σ 62 0) ∧ (∀ k, k < kA σ 63 0 → kV ρ 2 k = kV σ 2 k) ∧ (∃ f : Nat → Nat × Nat, ∀ i, i < sm (mN F σ n) (kA σ 62 0) → (f i).1 < n ∧ fw F σ (f i).1 (f i).2 ∧ kV ρ 2 (kA σ 63 0 + i) = wRow F (kGs F σ (f i).1) 0 (f i).2 ∧ ∀ i', i' < i → 3 * (f i').1 + (f i').2 < 3 * (f i).1 + (f i).2) ∧ (∀ q, ((∃ j, j < n ∧ fw F σ j q) → kI ρ 41 q = -1 ∧ kFull ρ q = 0) ∧ ((¬ ∃ j, j < n ∧ fw F σ j q) → kI ρ 41 q = kI σ 41 q ∧ kFull ρ q = kFull σ q)) ∧ (∀ c, kI ρ 34 c = kI (kGs F σ n) 34 c) ∧ KW ρ ∧ kA ρ 61 0 = kA σ 61 0 ∧ kA ρ 62 0 = kA σ 62 0
theorem tot_n {F : Nat → Option (aEnv → Int64)} (n K : Nat) : sm (fun j => wCn F (kGs F σ j) K) n = sm (mN F σ n) K := by
  have e : sm (fun j => wCn F (kGs F σ j) K) n = sm (fun j => sm (wb F (kGs F σ j)) K) n := sm_ext (fun j _ => wCn_sm _)
  rw [e, sm_swap]
  rfl
theorem weeks_N (hL : LSt gF α d0 σ) {X : KD} {f : aEnv} (n : Nat) (hX : kXr σ X (kRs (aFo α) σ n) d0) : Nsd (aFo α) σ n (kT (kTd (kGs (aFo α) σ n) X) f) := by
  have hAf := weeks_A (f := f) hL n hX
  obtain ⟨⟨hF, hv, hp, hN, hR, hT, hAc, h7, h4⟩, -⟩ := hL
  have hw := hv.1
  have hlen := kRs_len (F := aFo α) hp hw.1 hw.2.1 h4 n
  rw [tot_n] at hlen
  refine ⟨rfl, kI3_kGs σ n, hX.1.trans (by rw [hlen]), fun k hk => (hX.2.1 k hk).2, ?_, fun q => ?_, fun c => rfl, hAf.2.2.2.2.2.2.2.1.1, hAf.1 61 0 (by decide) (by decide) (by decide) (by decide), hAf.1 62 0 (by decide) (by decide) (by decide) (by decide)⟩
  · obtain ⟨f, hf⟩ := rs_ord (F := aFo α) hp hw.1 hw.2.1 h4 n
    refine ⟨f, fun i hi => ?_⟩
    obtain ⟨a, b, c, d⟩ := hf i (by rw [hlen]; exact hi)
    exact ⟨a, b, hX.2.2.1 _ _ c, d⟩
  · have h := gs_q (F := aFo α) hp hw.1 hw.2.1 q n
    have h25 : kA (kT (kTd (kGs (aFo α) σ n) X) f) 25 q = kA σ 25 q := hAf.1 25 q (by decide) (by decide) (by decide) (by decide)
    refine ⟨fun w => ⟨(h.1 w).1, kCnt_0 (fun p => (h.1 w).2 p) _⟩, fun w => ⟨(h.2 w).1, ?_⟩⟩
    unfold kFull
    rw [h25]
    exact kCnt_eq (fun p _ => (h.2 w).2 p)
/-- n weeks gone by -/
def WN (gF : xG) (α : aA) (d0 n : Nat) (σ ρ : KS) : Prop := ∃ σ1, kKp σ σ1 d0 ∧ LSt gF α d0 σ1 ∧ Nsd (aFo α) σ1 n ρ ∧ Af σ1 ρ d0 ∧ AR gF α d0 σ ρ
theorem m_weeks_n {l : Launch} {s0 : State} {D : va_G} (h0 : x0 l s0 D) (σ : KS) (gF : xG) (f : aEnv) {α : aA} {d0 : Nat} (hok : aOk α) (hL : LSt gF α d0 σ) (hFo : KFo s0 gF d0) (hwk : 0 ≤ kI σ 3 0 ∧ kI σ 3 0 ≤ 890) {n : Nat} (hn : 1 ≤ n ∧ n ≤ 5) : xMet l s0 D yX2_weeks cX2_weeks 2 (some .int) (xr 44 360 2400 2000) [.ref (kA σ 0 0), .int (nI n)] (kmix (kT σ f) gF) (fun r g1 => ∃ ρ, r = some (.int (nI (sm (mN (aFo α) σ n) (kA σ 62 0)))) ∧ WN gF α d0 n σ ρ ∧ g1 = kmix ρ gF) := by
  have hG := hL.1
  refine ((m_X2_weeks h0 σ gF f hG hFo n ⟨hn.1, by omega⟩ ⟨hwk.1, by omega⟩ (fun k hk => by
    have := (weeks_L hok hL hwk.1 k (by omega)).1
    omega)).room (rm' := xr 44 360 2400 2000) (Nat.le_refl _) (show 25 + 66 * n ≤ 360 by omega) (show 340 + 411 * n ≤ 2400 by omega) (Nat.le_refl _)).post ?_
  rintro r g1 ⟨f1, σ1, ρ1, rfl, hk, ⟨X, rfl, hX⟩, rfl⟩
  have hL1 := hk.LSt hL
  have e3 : kI σ1 3 0 = kI σ 3 0 := hk.I rfl 0
  obtain ⟨-, hw2⟩ := weeks_L hok hL1 (by rw [e3]; exact hwk.1) n (by rw [e3]; omega)
  obtain ⟨hLr, hTr⟩ := hw2 X f1 hX
  have hAf := weeks_A (f := f1) hL1 n hX
  have hNs := weeks_N (f := f1) hL1 n hX
  refine ⟨_, ?_, ⟨σ1, hk, hL1, hNs, hAf, (AR.bk ⟨hLr, hAf.1 0 0 (by decide) (by decide) (by decide) (by decide), fun c hc hn2 => hTr c hc hn2, ?_, ?_, ?_, ?_, fun j => funext fun i => hAf.2.2.1 2 j i (by decide) (fun w => absurd w.1 (by decide))⟩ hk.Bk)⟩, rfl⟩
  · have hp := hG.2.2.1
    have hw := hG.2.1.1
    rw [kSm_n hp hw.1 hw.2.1 n, tot_n]
  · rw [hNs.2.1]; omega
  · rw [hNs.2.1]; omega
  · rw [hAf.2.2.2.1 1 0 3 (by decide)]; exact Int.le_refl _
  · rw [hAf.2.2.2.1 1 0 3 (by decide)]; omega
theorem m_undo_N {l : Launch} {s0 : State} {D : va_G} (h0 : x0 l s0 D) (gF : xG) {σ ρ : KS} {d0 n : Nat} {α : aA} (hFo : KFo s0 gF d0) (hL : LSt gF α d0 σ) (hW : WN gF α d0 n σ ρ) : xMet l s0 D yX2_undo cX2_undo 1 (some .boolean) (xr 14 0 0 500) [.ref (kA ρ 0 0)] (kmix ρ gF) (fun r g1 => ∃ σ2, r = some (.int 1) ∧ g1 = kmix σ2 gF ∧ LSt gF α d0 σ2 ∧ Bk σ σ2) := by
  obtain ⟨σ1, hk, hL1, hNs, hAf, hAR⟩ := hW
  refine (m_undo h0 ρ gF hL.1 hFo hk hAf).post ?_
  rintro r g1 ⟨σ2, a, b, c, d, e⟩
  obtain ⟨-, -, -, -, -, -, -, -, -, -, -, -, s, h1, h2⟩ := hAR.1
  exact ⟨σ2, a, b, hL.bk d c ⟨s, h1, by rw [e]; exact h2⟩, d⟩
/-- of two states of one town the same fires -/
theorem fw_bk {F : Nat → Option (aEnv → Int64)} {τ : KS} (h : kEy τ σ) (hp : KPl σ) (hp2 : KPl τ) (h8 : kA σ 61 0 ≤ 8) (h3 : kA σ 62 0 ≤ 3) (j q : Nat) : fw F τ j q ↔ fw F σ j q := by
  by_cases hq : q < kA σ 62 0
  · have e1 := fw_b (F := F) (j := j) hp h8 h3 hq
    have e2 := fw_b (F := F) (σ := τ) (j := j) hp2 (by rw [h.2.2.2.1]; exact h8) (by rw [h.2.2.2.2]; exact h3) (q := q) (by rw [h.2.2.2.2]; exact hq)
    rw [← e1, ← e2]
    unfold kFb
    rw [(kGs_E (F := F) h (j + 1)).2 (by omega)]
  · exact ⟨fun w => absurd (by rw [← h.2.2.2.2]; exact w.1) hq, fun w => absurd w.1 hq⟩
end WSL
