/-! A WEEK, and the state between the acts -/
section WKL
variable {gF : xG} {α : aA} {d0 : Nat} {σ : KS} {X : KD} {f : aEnv} {st : Nat}
def wb (F : Nat → Option (aEnv → Int64)) (σ : KS) (q : Nat) : Nat := if iI (kI σ 41 q) = -1 ∨ kFull σ q = 0 ∨ wL F σ q < kBurn F σ q then 0 else 1
theorem wb_y {F : Nat → Option (aEnv → Int64)} {q : Nat} (h : wF F σ q) : wb F σ q = 1 := if_neg h
theorem wb_n {F : Nat → Option (aEnv → Int64)} {q : Nat} (h : ¬ wF F σ q) : wb F σ q = 0 := if_pos (Classical.not_not.mp h)
theorem wCn_sm {F : Nat → Option (aEnv → Int64)} : ∀ n, wCn F σ n = sm (wb F σ) n
  | 0 => rfl
  | n + 1 => by
    show _ = sm (wb F σ) n + wb F σ n
    by_cases h : wF F σ n
    · rw [wCn_y h, wb_y h, wCn_sm n]
    · rw [wCn_n h, wb_n h, wCn_sm n]; rfl
theorem sm_mul (k : Nat) (g : Nat → Nat) : ∀ n, k * sm g n = sm (fun j => k * g j) n
  | 0 => rfl
  | n + 1 => by
    show k * (sm g n + g n) = sm (fun j => k * g j) n + k * g n
    rw [Nat.mul_add, sm_mul k g n]
theorem frd_week {F : Nat → Option (aEnv → Int64)} {gu : Int32} {ρ : KS} {K n : Nat} (hp : KPl σ) (hn : n = kA σ 61 0) (hK : K = kA σ 62 0) (hRw : KRw σ) (hW : WkR F σ gu K ρ) (hT : ∀ q p c, q < K → wF F σ q → kO σ 1 q p = some c → ¬ kI ρ 34 c = -1) : frd σ n + wCn F σ K ≤ frd ρ n := by
  subst hn; subst hK
  have h1 : wCn F σ (kA σ 62 0) ≤ sm (fun c => sm (fun q => wb F σ q * (if kO σ 0 c 0 = some q then 1 else 0)) (kA σ 62 0)) (kA σ 61 0) := by
    rw [← sm_swap, wCn_sm]
    refine sm_le (fun q hq => ?_)
    rw [← sm_mul]
    by_cases hf : wF F σ q
    · have h2 := kFull_n hp q
      have h3 : ¬ kFull σ q = 0 := fun e => hf (Or.inr (Or.inl e))
      rw [wb_y hf, Nat.one_mul]
      show 1 ≤ kNk σ q (kA σ 61 0)
      omega
    · rw [wb_n hf]; exact Nat.zero_le _
  refine Nat.le_trans (Nat.add_le_add_left h1 _) ?_
  unfold frd
  rw [← sm_add]
  refine sm_le (fun c hc => ?_)
  cases e : kO σ 0 c 0 with
  | none =>
    rw [sm_ext (g := fun _ => 0) (fun q _ => by rw [if_neg (fun w => by cases w)]; rfl), sm_z]
    have hnA : ¬ wA F σ (kA σ 62 0) c := fun ⟨q, p, _, _, w⟩ => by
      have := ((hp.1 q p c).mp w).2.1
      rw [e] at this; cases this
    rw [(hW.2.2.2.2.1 c hnA).2.2.1]
    exact Nat.le_refl _
  | some q0 =>
    obtain ⟨hq0, p, p1, p2⟩ := hp.2.1 c q0 hc e
    have hpl : kO σ 1 q0 p = some c := (hp.1 q0 p c).mpr ⟨hc, e, p2⟩
    rw [sm_ext (g := fun q => if q = q0 then wb F σ q0 else 0) (fun q _ => by
      by_cases w : q = q0
      · rw [if_pos w, if_pos (by rw [w]), w, Nat.mul_one]
      · rw [if_neg w, if_neg (fun v => w (by cases v; rfl)), Nat.mul_zero]), sm_pt, if_pos hq0]
    rw [if_pos (hRw c q0 hc e)]
    by_cases hf : wF F σ q0
    · rw [wb_y hf, if_neg (hT q0 p c hq0 hf hpl)]; exact Nat.le_refl _
    · rw [wb_n hf]; exact Nat.zero_le _
theorem aBu_b {α : aA} (hok : aOk α) {h : Int} {q f : Nat} {w : Int} (hh : 0 ≤ h ∧ h ≤ 20) (hf : f ≤ 6) (hw : 0 ≤ w) : 0 ≤ aBu α h q f w ∧ aBu α h q f w ≤ 1000 := by
  have hr := hok.2.2.2.2.2.2.2.2.2.2.2 q
  unfold aBu
  have hm : w.tmod 2 = w % 2 := Int.tmod_eq_emod_of_nonneg hw
  have h1 : 0 ≤ h * (aRo α q : Int) := Int.mul_nonneg hh.1 (by omega)
  have h2 : h * (aRo α q : Int) ≤ 20 * 6 := Int.mul_le_mul hh.2 (by omega) (by omega) (by decide)
  split
  · omega
  split
  · omega
  split
  · rw [hm]; omega
  split
  · omega
  split <;> decide
theorem wL_b (hok : aOk α) (hl : LT σ α) (hLW : LW σ α) (hw : KW σ) (hN : KNb σ) (h7 : 0 ≤ kI σ 7 0 ∧ kI σ 7 0 ≤ 9999) (hwk : 0 ≤ kI σ 3 0 ∧ kI σ 3 0 ≤ 900) : ∀ n, n ≤ aI α 1 → ∃ a : Int, wL (aFo α) σ n = iI a ∧ 0 ≤ a ∧ a ≤ 9999
  | 0, _ => by
    have h30 := hok.2.2.2.2.2.2.2.1
    show ∃ a, kFl σ = iI a ∧ _
    unfold kFl
    rw [hLW.1, iI_add]
    by_cases e : iI (kI σ 7 0 + (aI α 7 : Int)) < 9999
    · rw [if_pos e]
      have := (iI_lt (b := 9999) ⟨by omega, by omega⟩ ⟨by decide, by decide⟩).mp e
      exact ⟨_, rfl, by omega, by omega⟩
    · rw [if_neg e]
      exact ⟨9999, rfl, by decide, by decide⟩
  | n + 1, hn => by
    obtain ⟨a, a1, a2, a3⟩ := wL_b hok hl hLW hw hN h7 hwk n (by omega)
    by_cases hf : wF (aFo α) σ n
    · have h41 := hN.2 n (by rw [hl.2.1]; omega)
      have hne : ¬ kI σ 41 n = -1 := fun e => hf (Or.inl (by rw [e]; rfl))
      have hfl := kFull_6 hw (q := n) (by rw [hl.2.1]; omega)
      have hb := aBrn hok hl (q := n) (by omega) ⟨by omega, h41.2⟩ ⟨hwk.1, by omega⟩ hfl
      have hbb := aBu_b hok (h := kI σ 41 n) (q := n) (f := kFull σ n) (w := kI σ 3 0) ⟨by omega, h41.2⟩ hfl hwk.1
      have hlt : ¬ wL (aFo α) σ n < kBurn (aFo α) σ n := fun e => hf (Or.inr (Or.inr e))
      rw [a1, hb] at hlt
      have := mt (iI_lt (a := a) (b := aBu α (kI σ 41 n) n (kFull σ n) (kI σ 3 0)) ⟨by omega, by omega⟩ ⟨by omega, by omega⟩).mpr hlt
      rw [wL_y hf, a1, hb, iI_sub]
      exact ⟨_, rfl, by omega, by omega⟩
    · rw [wL_n hf]
      exact ⟨a, a1, a2, a3⟩
theorem wJ_sym {F : Nat → Option (aEnv → Int64)} {gu : Int32} {n c i : Nat} (h : wJ F σ gu n c i) : wJ F σ gu n i c := by
  obtain ⟨q, p, a, b, d⟩ := h
  exact ⟨q, p, a, b, d.elim (fun w => Or.inr ⟨w.1, w.2.1, w.2.2⟩) (fun w => Or.inl ⟨w.1, w.2.1, w.2.2⟩)⟩
theorem wJ_A {F : Nat → Option (aEnv → Int64)} {gu : Int32} {n c i : Nat} (h : wJ F σ gu n c i) : wA F σ n c := by
  obtain ⟨q, p, a, b, d⟩ := h
  rcases d with d | d
  · exact ⟨q, p, a, b, d.1⟩
  · exact ⟨q, p + 1, a, b, d.2.1⟩
theorem kHt_h (hN : KNb σ) {q : Nat} (hq : q < kA σ 62 0) {F : Nat → Option (aEnv → Int64)} (hf : wF F σ q) (hst : st < 4) : ∃ h : Nat, h ≤ 20 ∧ kHt σ q (nI st) = nI h := by
  have h41 := hN.2 q hq
  have hne : ¬ kI σ 41 q = -1 := fun e => hf (Or.inl (by rw [e]; rfl))
  refine ⟨(min 20 (kI σ 41 q + (st : Nat))).toNat, by omega, ?_⟩
  rw [kHt_st ⟨h41.1, h41.2⟩ hst, ← iI_nat]
  congr 1
  omega
/-- the week as it passes -/
theorem week_P (hL : LSt gF α d0 σ) (hX : kXr σ X (kWr (aFo α) (nI st) σ (kA σ 62 0)) d0) : Psd (aFo α) σ (nI st) (aI α 1) (kT (kTd (kWk (aFo α) (nI st) σ) X) f) := by
  obtain ⟨⟨hF, hv, hp, hN, hR, hT, hAc, h7, h4⟩, hl, hLW, hM, hRw, hrow, hfu, hck, ho1, ho2, ho3, ho4, hsd⟩ := hL
  have hw := hv.1
  have hW := wkN (F := aFo α) (gu := nI st) hp hw.1 hw.2.1 (kA σ 62 0) (Nat.le_refl _)
  have hr := kWr_at (F := aFo α) (gu := nI st) hp hw.1 hw.2.1 h4 (kA σ 62 0) (Nat.le_refl _)
  have hTR : kTR σ (kWk (aFo α) (nI st) σ) (kTd (kWk (aFo α) (nI st) σ) X) (kWr (aFo α) (nI st) σ (kA σ 62 0)) d0 := ⟨X, rfl, hX⟩
  have hA : kA (kWk (aFo α) (nI st) σ) = kA σ := kA_kWk σ
  have hAx : ∀ (f' i : Nat), f' ≠ 63 → f' ≠ 12 → f' ≠ 11 → f' ≠ 73 → kA (kT (kTd (kWk (aFo α) (nI st) σ) X) f) f' i = kA σ f' i := fun f' i a b c d => hTR.A hA i a b c d
  rw [← hl.2.1]
  refine ⟨hW.td _ X f, rfl, fun c => rfl, (hTR.V (kWk_V hv)).1, hAx 61 0 (by decide) (by decide) (by decide) (by decide), hAx 62 0 (by decide) (by decide) (by decide) (by decide), fun q => hAx 25 q (by decide) (by decide) (by decide) (by decide), hTR.len.trans (by rw [hr.1]), fun k hk => (hX.2.1 k hk).2, fun q hq hf => hX.2.2.1 _ _ (hr.2 q hq hf)⟩
/-- the week as an act -/
theorem week_A (hL : LSt gF α d0 σ) (hX : kXr σ X (kWr (aFo α) (nI st) σ (kA σ 62 0)) d0) : Af σ (kT (kTd (kWk (aFo α) (nI st) σ) X) f) d0 := by
  obtain ⟨⟨hF, hv, hp, hN, hR, hT, hAc, h7, h4⟩, -⟩ := hL
  have hTR : kTR σ (kWk (aFo α) (nI st) σ) (kTd (kWk (aFo α) (nI st) σ) X) (kWr (aFo α) (nI st) σ (kA σ 62 0)) d0 := ⟨X, rfl, hX⟩
  obtain ⟨hP, hU⟩ := kWk_P (F := aFo α) (gu := nI st) hp
  refine ⟨fun f k a b c d => hTR.A (kA_kWk σ) k a b c d, fun f k h16 hm => ?_, fun f k j a b => hU.2.2.1 f k j a b, fun f k j h2 => ?_, hTR.cap, ?_, fun k hk => (hX.2.1 k hk).2, hTR.V (kWk_V hv), hP, ?_⟩
  · show (if f = 16 ∧ k = 0 then X.1 else kI (kWk (aFo α) (nI st) σ) f k) = _
    rw [if_neg (fun w => h16 w.1)]
    exact hU.2.1 f k hm
  · show (if f = 2 then X.2.2.2.2.2 k j else kV (kWk (aFo α) (nI st) σ) f k j) = _
    rw [if_neg h2, hU.2.2.2.1]
  · have := hTR.len
    show kA σ 63 0 ≤ kA (kTd (kWk (aFo α) (nI st) σ) X) 63 0
    omega
  · show kI (kWk (aFo α) (nI st) σ) 4 0 = 0
    rw [kI4_kWk]; exact h4
/-- behind the week -/
theorem week_L (hok : aOk α) (hst : st < 4) (hwk : 0 ≤ kI σ 3 0 ∧ kI σ 3 0 ≤ 900) (hL : LSt gF α d0 σ) (hX : kXr σ X (kWr (aFo α) (nI st) σ (kA σ 62 0)) d0) : LSt gF α d0 (kT (kTd (kWk (aFo α) (nI st) σ) X) f) := by
  have hPs := week_P (f := f) hL hX
  have hAf := week_A (f := f) hL hX
  obtain ⟨⟨hF, hv, hp, hN, hR, hT, hAc, h7, h4⟩, hl, hLW, hM, hRw, hrow, hfu, hck, ho1, ho2, ho3, ho4, hsd⟩ := hL
  have hw := hv.1
  have hTR : kTR σ (kWk (aFo α) (nI st) σ) (kTd (kWk (aFo α) (nI st) σ) X) (kWr (aFo α) (nI st) σ (kA σ 62 0)) d0 := ⟨X, rfl, hX⟩
  have h7r : kI (kT (kTd (kWk (aFo α) (nI st) σ) X) f) 7 0 = (wL (aFo α) σ (kA σ 62 0)).toInt := kWkN7 (F := aFo α) (gu := nI st) hp hw.1 hw.2.1 (kA σ 62 0) (Nat.le_refl _)
  have h35 : P35 (kA σ 61 0) (kT (kTd (kWk (aFo α) (nI st) σ) X) f) := by
    have hs : P35 (kA σ 61 0) σ := fun c hc => ⟨iI (kI σ 35 c), by rw [iI_toInt ⟨by have := (hN.1 c hc).2.1; omega, by have := (hN.1 c hc).2.1; omega⟩]⟩
    exact fun c hc => hs.wk (F := aFo α) (gu := nI st) (kA σ 62 0) c hc
  have hIo : ∀ f' k, (f' < 33 ∨ 36 < f') → f' ≠ 7 → f' ≠ 41 → f' ≠ 5 → f' ≠ 3 → f' ≠ 16 → kI (kT (kTd (kWk (aFo α) (nI st) σ) X) f) f' k = kI σ f' k := fun f' k a b c d e g => by
    show (if f' = 16 ∧ k = 0 then X.1 else kI (kIs (kWkN (aFo α) (nI st) σ (kA σ 62 0)) 3 0 (kI σ 3 0 + 1)) f' k) = _
    rw [if_neg (fun w => g w.1), kI_kIs, if_neg (fun w => e w.1), kI_kWkN σ a b c d k]
  have hKR : KR (kT (kTd (kWk (aFo α) (nI st) σ) X) f) := hTR.Rm (kA_kWk σ) hR
  have hFF : kF gF (kT (kTd (kWk (aFo α) (nI st) σ) X) f) (aFo α) := hTR.Fm (fun j => kO2_kWk σ j) hF
  have hkL : kL (kT (kTd (kWk (aFo α) (nI st) σ) X) f) 1 0 = kL σ 1 0 := by
    show kL (kWk (aFo α) (nI st) σ) 1 0 = _
    rw [(kWk_P (F := aFo α) (gu := nI st) hp).2.2.2.2.2]
  generalize kT (kTd (kWk (aFo α) (nI st) σ) X) f = ρ at hPs hAf h7r h35 hIo hKR hFF hkL ⊢
  obtain ⟨hW, hP3, -, hwr, h61, h62, h25, h63, hold, hrw⟩ := hPs
  obtain ⟨A1, A2, A3, A4, A5, A6, A7, A8, A9, A10⟩ := hAf
  rw [← hl.2.1] at hW h63 hrw
  have hTz : ∀ q p c, q < kA σ 62 0 → wF (aFo α) σ q → kO σ 1 q p = some c → ∃ z : Int, kI ρ 34 c = z ∧ 0 ≤ z ∧ z ≤ 99 := fun q p c hq hf e => by
    obtain ⟨h, h20, hht⟩ := kHt_h hN hq hf hst
    have hc := (hp.1 q p c).mp e
    obtain ⟨-, p2, e4, e5⟩ := hp.2.1 c q hc.1 hc.2.1
    have hr6 := hw.2.2.2.1 q hq
    obtain ⟨z, z1, z2, z3⟩ := aTempR hok hl (show c < aI α 0 by rw [← hl.1]; exact hc.1) h20 (show p ≤ 6 by omega)
    refine ⟨z, ?_, z2, z3⟩
    rw [(hW.2.2.2.2.2.1 q p c hq hf e).1]
    unfold wT
    rw [hht, z1, iI_toInt ⟨by omega, by omega⟩]
  have hKM : KMk ρ := by
    intro c hc
    rw [h61] at hc ⊢
    refine ⟨fun i hi hb => ?_, fun hr i hi => ?_⟩
    · rcases (hW.2.2.2.2.2.2.1 c i hi).mp hb with w | w
      · obtain ⟨m1, m2, m3⟩ := (hM c hc).1 i hi w
        exact ⟨m1, m2, (hW.2.2.2.2.2.2.1 i c (by have := hw.1; omega)).mpr (Or.inl m3)⟩
      · obtain ⟨q, p, a, b, e⟩ := wJ_A (wJ_sym w)
        refine ⟨((hp.1 q p i).mp e).1, fun w2 => ?_, (hW.2.2.2.2.2.2.1 i c (by have := hw.1; omega)).mpr (Or.inr (wJ_sym w))⟩
        subst w2
        obtain ⟨q2, p2, -, -, d⟩ := w
        rcases d with d | d
        · have := ((hp.1 q2 p2 i).mp d.1).2.2
          have := ((hp.1 q2 (p2 + 1) i).mp d.2.1).2.2
          omega
        · have := ((hp.1 q2 p2 i).mp d.1).2.2
          have := ((hp.1 q2 (p2 + 1) i).mp d.2.1).2.2
          omega
    · have hnA : ¬ wA (aFo α) σ (kA σ 62 0) c := fun ⟨q, p, a, b, e⟩ => by
        obtain ⟨z, z1, z2, z3⟩ := hTz q p c a b e
        omega
      cases hb : bt (iI (kI ρ 35 c)) i with
      | false => rfl
      | true =>
        rcases (hW.2.2.2.2.2.2.1 c i hi).mp hb with w | w
        · rw [(hM c hc).2 (by rw [← (hW.2.2.2.2.1 c hnA).2.2.1]; exact hr) i hi] at w
          cases w
        · exact absurd (wJ_A w) hnA
  have hNr : KNb ρ := by
    refine ⟨fun c hc => ?_, fun q hq => ?_⟩
    · have hc1 := hc
      rw [h61] at hc
      have m35 : 0 ≤ kI ρ 35 c ∧ kI ρ 35 c < 256 := by
        obtain ⟨x, hx⟩ := h35 c hc
        have := bt_lt (x := x) (n := 8) (Nat.le_refl _) (fun i hi hb => by
          have := ((hKM c hc1).1 i hi (by rw [hx, toI]; exact hb)).1
          rw [h61] at this
          have := hw.1
          omega)
        rw [hx]; exact this
      refine ⟨?_, m35, ?_⟩
      · by_cases hA : wA (aFo α) σ (kA σ 62 0) c
        · obtain ⟨q, p, a, b, e⟩ := hA
          obtain ⟨z, z1, z2, z3⟩ := hTz q p c a b e
          omega
        · rw [(hW.2.2.2.2.1 c hA).2.2.1]; exact (hN.1 c hc).1
      · by_cases hA : wA (aFo α) σ (kA σ 62 0) c
        · obtain ⟨q, p, a, b, e⟩ := hA
          rw [(hW.2.2.2.2.2.1 q p c a b e).2]
          unfold wC
          rcases kCrack_01 hF c (kHt σ q (nI st)) (nI p) with w | w <;> rw [w]
          · exact Or.inl rfl
          · exact Or.inr rfl
        · rw [(hW.2.2.2.2.1 c hA).2.2.2]; exact (hN.1 c hc).2.2
    · rw [h62] at hq
      by_cases hf : wF (aFo α) σ q
      · rw [(hW.2.1 q).1 ⟨hq, hf⟩]; decide
      · rw [(hW.2.1 q).2 (fun w => hf w.2)]; exact hN.2 q hq
  have hfrd := frd_week hp (n := aI α 0) hl.1.symm rfl hRw hW (fun q p c a b e w => by
    obtain ⟨z, z1, z2, z3⟩ := hTz q p c a b e
    omega)
  have hrow2 : kA ρ 63 0 ≤ frd ρ (aI α 0) := by rw [h63]; omega
  have h6 : frd ρ (aI α 0) ≤ aI α 0 := frd_6
  obtain ⟨a, a1, a2, a3⟩ := wL_b hok hl hLW hw hN hfu hwk (kA σ 62 0) (by rw [hl.2.1]; exact Nat.le_refl _)
  have hb0 := hok.1
  refine ⟨⟨hFF, A8, A9, hNr, hKR, A5, ?_, by omega, A10⟩, hl.eq h61 h62 (fun c => hIo 31 c (by decide) (by decide) (by decide) (by decide) (by decide) (by decide)) (fun c => hIo 32 c (by decide) (by decide) (by decide) (by decide) (by decide) (by decide)) h25, ⟨(hIo 8 0 (by decide) (by decide) (by decide) (by decide) (by decide) (by decide)).trans hLW.1, (hIo 9 0 (by decide) (by decide) (by decide) (by decide) (by decide) (by decide)).trans hLW.2⟩, hKM, fun c q hc e => ?_, hrow2, ?_, fun c hc e => ?_, ?_, ?_, ?_, ?_, ?_⟩
  · unfold KAc
    rw [A1 65 0 (by decide) (by decide) (by decide) (by decide), A1 75 0 (by decide) (by decide) (by decide) (by decide), A1 17 0 (by decide) (by decide) (by decide) (by decide)]
    exact hAc
  · rw [h61] at hc
    have hnA : ¬ wA (aFo α) σ (kA σ 62 0) c := fun hA => by
      rw [(hW.2.2.2.1 c hA).1] at e; cases e
    rw [(hW.2.2.2.2.1 c hnA).2.2.1]
    rw [(hW.2.2.2.2.1 c hnA).1] at e
    exact hRw c q hc e
  · rw [h7r, a1, iI_toInt ⟨by omega, by omega⟩]
    exact ⟨a2, a3⟩
  · rw [h61] at hc
    have hnA : ¬ wA (aFo α) σ (kA σ 62 0) c := fun ⟨q, p, a, b, w⟩ => by
      obtain ⟨z, z1, z2, z3⟩ := hTz q p c a b w
      omega
    rw [(hW.2.2.2.2.1 c hnA).2.2.1] at e
    rw [(hW.2.2.2.2.1 c hnA).2.2.2]
    exact hck c hc e
  · exact (hIo 0 0 (by decide) (by decide) (by decide) (by decide) (by decide) (by decide)).trans ho1
  · exact (A1 64 0 (by decide) (by decide) (by decide) (by decide)).trans ho2
  · exact (A1 74 0 (by decide) (by decide) (by decide) (by decide)).trans ho3
  · exact (A1 14 0 (by decide) (by decide) (by decide) (by decide)).trans ho4
  · obtain ⟨s, h1, h2⟩ := hsd
    exact ⟨s, h1, hkL.trans h2⟩
/-- a fired child keeps its temper -/
theorem week_T {F : Nat → Option (aEnv → Int64)} {gu : Int32} {n : Nat} {ρ : KS} (hp : KPl σ) (hRw : KRw σ) (hW : WkR F σ gu n ρ) {c : Nat} (hc : c < kA σ 61 0) (h : ¬ kI σ 34 c = -1) : kI ρ 34 c = kI σ 34 c := by
  refine (hW.2.2.2.2.1 c (fun ⟨q, p, a, b, e⟩ => ?_)).2.2.1
  exact h (hRw c q hc ((hp.1 q p c).mp e).2.1)
end WKL
theorem jb3_ : ∀ a b c : Bool, jbits (nI ((if a then 1 else 0) + (if b then 2 else 0) + (if c then 4 else 0))) = nI ((if a then 1 else 0) + (if b then 1 else 0) + (if c then 1 else 0)) ∧ ∀ i : Fin 32, bt (nI ((if a then 1 else 0) + (if b then 2 else 0) + (if c then 4 else 0))) i.val = ((decide (i.val = 0) && a) || (decide (i.val = 1) && b) || (decide (i.val = 2) && c)) := by decide +kernel
theorem jb_3 {x : Int32} (h : ∀ i, i < 32 → bt x i = true → i < 3) : jbits x = nI ((if bt x 0 then 1 else 0) + (if bt x 1 then 1 else 0) + (if bt x 2 then 1 else 0)) := by
  obtain ⟨e1, e2⟩ := jb3_ (bt x 0) (bt x 1) (bt x 2)
  have e : x = nI ((if bt x 0 then 1 else 0) + (if bt x 1 then 2 else 0) + (if bt x 2 then 4 else 0)) := b_ext (fun i hi => by
    rw [e2 ⟨i, hi⟩]
    dsimp only
    by_cases h0 : i = 0
    · subst h0; simp
    · by_cases h1 : i = 1
      · subst h1; simp
      · by_cases h2 : i = 2
        · subst h2; simp
        · cases hb : bt x i with
          | false => simp [h0, h1, h2]
          | true => have := h i hi hb; omega)
  exact (congrArg jbits e).trans e1
theorem kSm_1 {F : Nat → Option (aEnv → Int64)} {σ : KS} (hp : KPl σ) (h8 : kA σ 61 0 ≤ 8) (h3 : kA σ 62 0 ≤ 3) : kSm F σ 1 = nI (wCn F σ (kA σ 62 0)) := by
  have hW := (wkN (F := F) (gu := 0) hp h8 h3 (kA σ 62 0) (Nat.le_refl _)).2.2.2.2.2.2.2
  have e5 : kI (kGs F σ 1) 5 0 = kI (kWkN F 0 σ (kA σ 62 0)) 5 0 := by
    show kI (kIs (kWkN F 0 σ (kA σ 62 0)) 3 0 _) 5 0 = _
    rw [kI_kIs, if_neg (fun w => absurd w.1 (by decide))]
  show (0 : Int32) + jbits (iI (kI (kGs F σ 1) 5 0)) = _
  rw [e5, Int32.zero_add, jb_3 (fun i hi hb => by have := ((hW i hi).mp hb).1; omega)]
  congr 1
  have hb : ∀ i, i < 32 → (if bt (iI (kI (kWkN F 0 σ (kA σ 62 0)) 5 0)) i then 1 else 0 : Nat) = if i < kA σ 62 0 then wb F σ i else 0 := fun i hi => by
    cases hv : bt (iI (kI (kWkN F 0 σ (kA σ 62 0)) 5 0)) i with
    | true =>
      have := (hW i hi).mp hv
      rw [if_pos rfl, if_pos this.1, wb_y this.2]
    | false =>
      rw [if_neg (by decide)]
      by_cases hlt : i < kA σ 62 0
      · rw [if_pos hlt, wb_n (fun w => by rw [(hW i hi).mpr ⟨hlt, w⟩] at hv; cases hv)]
      · rw [if_neg hlt]
  rw [hb 0 (by decide), hb 1 (by decide), hb 2 (by decide), wCn_sm]
  generalize kA σ 62 0 = K at h3
  match K, h3 with
  | 0, _ => rfl
  | 1, _ => show wb F σ 0 + 0 + 0 = 0 + wb F σ 0; omega
  | 2, _ => show wb F σ 0 + wb F σ 1 + 0 = 0 + wb F σ 0 + wb F σ 1; omega
  | 3, _ => show wb F σ 0 + wb F σ 1 + wb F σ 2 = 0 + wb F σ 0 + wb F σ 1 + wb F σ 2; omega
  | n + 4, h => omega
