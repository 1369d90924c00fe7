/-! someWeeks: what is seen behind them -/
theorem mN_bk {F : Nat → Option (aEnv → Int64)} {σ τ : KS} (h : kEy τ σ) (hp : KPl σ) (hp2 : KPl τ) (h8 : kA σ 61 0 ≤ 8) (h3 : kA σ 62 0 ≤ 3) (n : Nat) {K : Nat} (hK : K = kA σ 62 0) : sm (mN F τ n) K = sm (mN F σ n) K := by
  subst hK
  refine sm_ext (fun q hq => ?_)
  have a := mN_y (F := F) (n := n) hp h8 h3 hq
  have b := mN_y (F := F) (σ := τ) (n := n) hp2 (by rw [h.2.2.2.1]; exact h8) (by rw [h.2.2.2.2]; exact h3) (q := q) (by rw [h.2.2.2.2]; exact hq)
  by_cases hx : ∃ j, j < n ∧ fw F σ j q
  · rw [a.1 hx, b.1 (by
      obtain ⟨j, h1, h2⟩ := hx
      exact ⟨j, h1, (fw_bk h hp hp2 h8 h3 j q).mpr h2⟩)]
  · rw [a.2 hx, b.2 (fun ⟨j, h1, h2⟩ => hx ⟨j, h1, (fw_bk h hp hp2 h8 h3 j q).mp h2⟩)]
/-- what the law sees behind n weeks, by the state before -/
def SWk (α : aA) (σ : KS) (V : Nat → Nat → Int32) (I : Nat → Int32) (n wk : Nat) (ρ : KS) : Prop := iI (kI ρ 7 0) = iI (kI (kGs (aFo α) (kIs σ 4 0 1) n) 7 0) ∧ iI (kI ρ 3 0) = I 2 + nI n ∧ kA ρ 63 0 = kA σ 63 0 + sm (mN (aFo α) σ n) (aI α 1) ∧ (∀ k, k < kA σ 63 0 → kV ρ 2 k = kV σ 2 k) ∧ (∃ fr : Nat → Nat × Nat, ∀ i, i < sm (mN (aFo α) σ n) (aI α 1) → (fr i).1 < n ∧ (fr i).2 < aI α 1 ∧ iI (kV ρ 2 (kA σ 63 0 + i) 0) = nI (wk + (fr i).1) ∧ iI (kV ρ 2 (kA σ 63 0 + i) 1) = nI (fr i).2 ∧ iI (kV ρ 2 (kA σ 63 0 + i) 2) = V 7 (fr i).2 ∧ V 9 (fr i).2 = nI (fr i).1 ∧ ∀ i', i' < i → 3 * ((fr i').1) + (fr i').2 < 3 * ((fr i).1) + (fr i).2) ∧ (∀ q, q < aI α 1 → (mN (aFo α) σ n q = 1 → kI ρ 41 q = -1 ∧ kFull ρ q = 0) ∧ (mN (aFo α) σ n q = 0 → kI ρ 41 q = kI σ 41 q ∧ kFull ρ q = kFull σ q)) ∧ (∀ c, iI (kI ρ 34 c) = iI (kI (kGs (aFo α) (kIs σ 4 0 1) n) 34 c)) ∧ KW ρ ∧ kA ρ 61 0 = kA σ 61 0 ∧ kA ρ 62 0 = kA σ 62 0
theorem WN.sw {gF : xG} {α : aA} {d0 n wk : Nat} {σ τ ρ : KS} {I : Nat → Int32} {V : Nat → Nat → Int32} {M : Nat → Nat → Nat → Int32} (hn : n ≤ 40) (hwk : kI σ 3 0 = wk) (hL : LSt gF α d0 σ) (hAF : AF α σ I V M) (hB : Bk σ τ) (h : WN gF α d0 n τ ρ) : SWk α σ V I n wk ρ := by
  obtain ⟨σ1, hk, hL1, ⟨n1, n2, n3, n4, ⟨fr, hfr⟩, n6, n7, n8, n9, n10⟩, -, -⟩ := h
  have hB1 : Bk σ σ1 := hB.trans hk.Bk
  obtain ⟨hE, e63, eV, -, -, -⟩ := hB1
  have hp := hL.1.2.2.1
  have hw := hL.1.2.1.1
  have hp1 := hL1.1.2.2.1
  have hK : kA σ 62 0 = aI α 1 := hL.2.1.2.1
  have hM : sm (mN (aFo α) σ1 n) (kA σ1 62 0) = sm (mN (aFo α) σ n) (aI α 1) := by
    rw [hE.2.2.2.2, mN_bk hE hp hp1 hw.1 hw.2.1 n rfl, hK]
  have hG : ∀ f k, kRl f = true → kI (kGs (aFo α) σ1 n) f k = kI (kGs (aFo α) (kIs σ 4 0 1) n) f k := fun f k hf => (kGs_E (F := aFo α) (hE.trans (kEy_is σ (show kRl 4 = false from rfl) 0 1).symm) n).1.1 f k hf
  rw [hM] at n3 hfr
  refine ⟨by rw [n1, hG 7 0 rfl], ?_, by rw [n3, e63], fun k hk2 => by rw [n4 k (by rw [e63]; exact hk2)]; exact eV k hk2, ⟨fr, fun i hi => ?_⟩, fun q hq => ?_, fun c => by rw [n7, hG 34 c rfl], n8, n9.trans hE.2.2.2.1, n10.trans hE.2.2.2.2⟩
  · rw [n2, hE.1 3 0 rfl, hAF.1.2.2.1, ← iI_add, iI_nat]
  · obtain ⟨a, b, c, d⟩ := hfr i hi
    have b2 := (fw_bk hE hp hp1 hw.1 hw.2.1 _ _).mp b
    have hq : (fr i).2 < aI α 1 := by rw [← hK]; exact b2.1
    rw [← e63, c]
    have h41 : kI (kGs (aFo α) σ1 (fr i).1) 41 (fr i).2 = kI σ1 41 (fr i).2 := ((gs_q (F := aFo α) hp1 hL1.1.2.1.1.1 hL1.1.2.1.1.2.1 (fr i).2 (fr i).1).2 (fun ⟨j, j1, j2⟩ => by
      have := fw_once hp1 hL1.1.2.1.1.1 hL1.1.2.1.1.2.1 j2 b
      omega)).1
    have hN := hL.1.2.2.2.1.2 (fr i).2 (by rw [hK]; exact hq)
    refine ⟨a, hq, ?_, iI_nat _, ?_, (kFnd_n hp hw.1 hw.2.1 b2.1 (hAF.2.2.1 _ hq).2.2.2.2 hn).2 _ a b2, d⟩
    · show iI (kI (kGs (aFo α) σ1 (fr i).1) 3 0) = _
      rw [kI3_kGs, hE.1 3 0 rfl, hwk, ← iI_nat]
      congr 1
    · show iI (kHt (kGs (aFo α) σ1 (fr i).1) (fr i).2 0).toInt = _
      rw [toI, (hAF.2.2.1 _ hq).2.2.1]
      unfold kHt
      rw [h41, hE.1 41 _ rfl, Int32.add_zero]
      by_cases e : iI (kI σ 41 (fr i).2) < 20
      · rw [if_pos e]
      · rw [if_neg e]
        have : ¬ kI σ 41 (fr i).2 < 20 := fun w => e ((iI_lt (b := 20) ⟨by omega, by omega⟩ ⟨by decide, by decide⟩).mpr w)
        rw [show kI σ 41 (fr i).2 = 20 by omega]
        rfl
  · have hy := mN_y (F := aFo α) (n := n) hp hw.1 hw.2.1 (q := q) (by rw [hK]; exact hq)
    have hiff : (∃ j, j < n ∧ fw (aFo α) σ1 j q) ↔ ∃ j, j < n ∧ fw (aFo α) σ j q := ⟨fun ⟨j, a, b⟩ => ⟨j, a, (fw_bk hE hp hp1 hw.1 hw.2.1 j q).mp b⟩, fun ⟨j, a, b⟩ => ⟨j, a, (fw_bk hE hp hp1 hw.1 hw.2.1 j q).mpr b⟩⟩
    have h6 := n6 q
    rw [hiff, hE.1 41 q rfl, hE.full] at h6
    refine ⟨fun e => h6.1 (Classical.byContradiction (fun w => by rw [hy.2 w] at e; cases e)), fun e => h6.2 (fun w => by rw [hy.1 w] at e; cases e)⟩
theorem KSt.xu {gF : xG} {F : Nat → Option (aEnv → Int64)} {d0 : Nat} {σ : KS} (h : KSt gF F d0 σ) {n : xN} (hn : gF n = none) (z : Option (Nat × xE)) : KSt (xu gF n z) F d0 σ := h.lam hn
theorem KFo.xu {s0 : State} {gF : xG} {d0 : Nat} (h : KFo s0 gF d0) {n : xN} (hn : 100 ≤ n.1 ∧ n.1 < 1000) (z : Option (Nat × xE)) : KFo s0 (xu gF n z) d0 := by
  refine ⟨⟨h.1.1, ?_⟩, fun k h1 h2 => ?_⟩
  · rw [xu_ne (fun w => by rw [← w] at hn; exact absurd hn.2 (by decide))]
    exact h.1.2
  · rw [xu_ne (fun w => by rw [w] at h2; omega)]
    exact h.2 k h1 h2
theorem m_weeks_f {l : Launch} {s0 : State} {D : va_G} (h0 : x0 l s0 D) (σ : KS) (gF gG : xG) (f : aEnv) {α : aA} {d0 : Nat} (hok : aOk α) (hL : LSt gF α d0 σ) (hG : KSt gG (aFo α) d0 σ) (hFo : KFo s0 gG d0) (hwk : 0 ≤ kI σ 3 0 ∧ kI σ 3 0 ≤ 890) {n : Nat} (hn : 1 ≤ n ∧ n ≤ 5) : xMet l s0 D yX2_weeks cX2_weeks 2 (some .int) (xr 44 360 2400 2000) [.ref (kA σ 0 0), .int (nI n)] (kmix (kT σ f) gG) (fun r g1 => ∃ ρ, r = some (.int (nI (sm (mN (aFo α) σ n) (kA σ 62 0)))) ∧ WN gF α d0 n σ ρ ∧ g1 = kmix ρ gG) := by
  refine ((m_X2_weeks h0 σ gG f hG hFo n ⟨hn.1, by omega⟩ ⟨hwk.1, by omega⟩ (fun k hk => by
    have := (weeks_L hok hL hwk.1 k (by omega)).1
    omega)).room (rm' := xr 44 360 2400 2000) (Nat.le_refl _) (show 25 + 66 * n ≤ 360 by omega) (show 340 + 411 * n ≤ 2400 by omega) (Nat.le_refl _)).post ?_
  rintro r g1 ⟨f1, σ1, ρ1, rfl, hk, ⟨X, rfl, hX⟩, rfl⟩
  have hL1 := hk.LSt hL
  have e3 : kI σ1 3 0 = kI σ 3 0 := hk.I rfl 0
  obtain ⟨-, hw2⟩ := weeks_L hok hL1 (by rw [e3]; exact hwk.1) n (by rw [e3]; omega)
  obtain ⟨hLr, hTr⟩ := hw2 X f1 hX
  have hAf := weeks_A (f := f1) hL1 n hX
  have hNs := weeks_N (f := f1) hL1 n hX
  refine ⟨_, ?_, ⟨σ1, hk, hL1, hNs, hAf, (AR.bk ⟨hLr, hAf.1 0 0 (by decide) (by decide) (by decide) (by decide), fun c hc hn2 => hTr c hc hn2, ?_, ?_, ?_, ?_, fun j => funext fun i => hAf.2.2.1 2 j i (by decide) (fun w => absurd w.1 (by decide))⟩ hk.Bk)⟩, rfl⟩
  · have hp := hL.1.2.2.1
    have hw := hL.1.2.1.1
    rw [kSm_n hp hw.1 hw.2.1 n, tot_n]
  · rw [hNs.2.1]; omega
  · rw [hNs.2.1]; omega
  · rw [hAf.2.2.2.1 1 0 3 (by decide)]; exact Int.le_refl _
  · rw [hAf.2.2.2.1 1 0 3 (by decide)]; omega
theorem m_undo_f {l : Launch} {s0 : State} {D : va_G} (h0 : x0 l s0 D) (gF gG : xG) {σ ρ : KS} {d0 n : Nat} {α : aA} (hFo : KFo s0 gG d0) (hL : LSt gF α d0 σ) (hG : KSt gG (aFo α) d0 σ) (hW : WN gF α d0 n σ ρ) : xMet l s0 D yX2_undo cX2_undo 1 (some .boolean) (xr 14 0 0 500) [.ref (kA ρ 0 0)] (kmix ρ gG) (fun r g1 => ∃ σ2, r = some (.int 1) ∧ g1 = kmix σ2 gG ∧ LSt gF α d0 σ2 ∧ KSt gG (aFo α) d0 σ2 ∧ Bk σ σ2) := by
  obtain ⟨σ1, hk, hL1, hNs, hAf, hAR⟩ := hW
  refine (m_undo h0 ρ gG hG hFo hk hAf).post ?_
  rintro r g1 ⟨σ2, a, b, c, d, e⟩
  obtain ⟨-, -, -, -, -, -, -, -, -, -, -, -, s, h1, h2⟩ := hAR.1
  exact ⟨σ2, a, b, hL.bk d ⟨kF_on hL.1.1 (fun j => by rw [d.1.2.1]), c.2⟩ ⟨s, h1, by rw [e]; exact h2⟩, c, d⟩
