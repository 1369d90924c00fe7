/-! inARow -/
theorem aSt_c (α : aA) (c d : Nat) (z h : Int) : aSt α c d z h = aSt α d c z h := by
  unfold aSt
  rw [Nat.add_comm (aGr α c)]
theorem kWho_m1 {σ : KS} {α : aA} (hok : aOk α) (hl : LT σ α) (hp : KPl σ) {K P : Nat → Int32} (hK : ∀ c, c < aI α 0 → K c = kKil σ c ∧ P c = iI (kI σ 33 c)) {q : Nat} (hq : q < aI α 1) : ∀ c, c ≤ aI α 0 → kWho K P (nI q) (-1) c = -1
  | 0, _ => rfl
  | c + 1, hc => by
    show (if K c = nI q ∧ P c = -1 then nI c else kWho K P (nI q) (-1) c) = _
    rw [if_neg (fun w => ?_), kWho_m1 hok hl hp hK hq c (by omega)]
    obtain ⟨e1, e2⟩ := hK c (by omega)
    have h1 := (hl.kil hp hok (show c < aI α 0 by omega) hq).mp (e1.symm.trans w.1)
    obtain ⟨-, p, p1, p2⟩ := hp.2.1 c q (by rw [hl.1]; omega) h1
    have h33 := hl.at33 hp hok (show c < aI α 0 by omega)
    have := (iI_eq (b := -1) (show iB (kI σ 33 c) from ⟨by omega, by omega⟩) ⟨by decide, by decide⟩).mp (e2.symm.trans (w.2.trans (show (-1 : Int32) = iI (-1) from rfl)))
    omega
def RR (F : Nat → Option (aEnv → Int64)) (σ : KS) (gu : Int32) (q p : Nat) (X : Int32) : Prop := ∃ j, (∀ i, p ≤ i → i < p + j → wEd F σ gu q i) ∧ ¬ wEd F σ gu q (p + j) ∧ ∀ i, i < 32 → (bt X i = true ↔ ∃ m, 1 ≤ m ∧ m ≤ j ∧ kO σ 1 q (p + m) = some i)
def LL (F : Nat → Option (aEnv → Int64)) (σ : KS) (gu : Int32) (q p : Nat) (X : Int32) : Prop := ∃ j, j ≤ p ∧ (∀ i, p - j ≤ i → i < p → wEd F σ gu q i) ∧ (p - j = 0 ∨ ¬ wEd F σ gu q (p - j - 1)) ∧ ∀ i, i < 32 → (bt X i = true ↔ ∃ m, 1 ≤ m ∧ m ≤ j ∧ kO σ 1 q (p - m) = some i)
theorem RL_S {F : Nat → Option (aEnv → Int64)} {σ : KS} {gu : Int32} {q p c : Nat} {X Y : Int32} (hp : KPl σ) (h8 : kA σ 61 0 ≤ 8) (hM : KMk σ) (hr : KRw σ) {ρ : KS} {n : Nat} (h61 : kA ρ 61 0 = kA σ 61 0) (hW : ∀ c i, i < 32 → (bt (iI (kI ρ 35 c)) i = true ↔ bt (iI (kI σ 35 c)) i = true ∨ wJ F σ gu n c i)) (hq : q < n) (hf : wF F σ q) (hc : kO σ 1 q p = some c) (hX : RR F σ gu q p X) (hY : LL F σ gu q p Y) : kBr ρ c (((1 : Int32) <<< (nI c &&& 31)) ||| X ||| Y) := by
  obtain ⟨jr, r1, r2, r3⟩ := hX
  obtain ⟨jl, l0, l1, l2, l3⟩ := hY
  have hcl := ((hp.1 q p c).mp hc).1
  refine runBr hp h8 hM hr h61 hW hq hf hc l0 (fun i a b => ?_) l2 r2 (fun i hi => ?_)
  · by_cases e : p ≤ i
    · exact r1 i e b
    · exact l1 i a (by omega)
  · rw [b_or, b_or, Bool.or_eq_true, Bool.or_eq_true, b_one (by omega) hi, r3 i hi, l3 i hi, decide_eq_true_eq]
    constructor
    · rintro ((a | ⟨m, m1, m2, m3⟩) | ⟨m, m1, m2, m3⟩)
      · subst a; exact ⟨p, by omega, by omega, hc⟩
      · exact ⟨p + m, by omega, by omega, m3⟩
      · exact ⟨p - m, by omega, by omega, m3⟩
    · rintro ⟨p', b1, b2, b3⟩
      by_cases e : p' = p
      · subst e; rw [hc] at b3; cases b3; exact Or.inl (Or.inl rfl)
      · by_cases e2 : p < p'
        · exact Or.inl (Or.inr ⟨p' - p, by omega, by omega, by rw [show p + (p' - p) = p' by omega]; exact b3⟩)
        · exact Or.inr ⟨p - p', by omega, by omega, by rw [show p - (p - p') = p' by omega]; exact b3⟩

theorem bits_s {w : Nat → Option Nat} {s : Nat → Nat} {j d : Nat} {set : Int32} (hd8 : d < 32) (hd : w (s (j + 1)) = some d) (hb : ∀ i, i < 32 → (bt set i = true ↔ ∃ m, 1 ≤ m ∧ m ≤ j ∧ w (s m) = some i)) : ∀ i, i < 32 → (bt (set ||| ((1 : Int32) <<< (nI d &&& 31))) i = true ↔ ∃ m, 1 ≤ m ∧ m ≤ j + 1 ∧ w (s m) = some i) := fun i hi => by
  rw [b_or, b_one hd8 hi, Bool.or_eq_true, hb i hi, decide_eq_true_eq]
  constructor
  · rintro (⟨m, a, b, e⟩ | e)
    · exact ⟨m, a, by omega, e⟩
    · subst e; exact ⟨j + 1, by omega, Nat.le_refl _, hd⟩
  · rintro ⟨m, a, b, e⟩
    by_cases v : m = j + 1
    · subst v; rw [hd] at e; cases e; exact Or.inr rfl
    · exact Or.inl ⟨m, a, by omega, e⟩
def nxt (σ : KS) (q p j n : Nat) : Int32 := if p - j = 0 then -1 else aAt σ q (p - j - 1) n
theorem nxt_who {σ : KS} {α : aA} (hok : aOk α) (hl : LT σ α) (hp : KPl σ) {K P : Nat → Int32} (hK : ∀ c, c < aI α 0 → K c = kKil σ c ∧ P c = iI (kI σ 33 c)) {q : Nat} (hq : q < aI α 1) {p j : Nat} (h6 : p < 100) (hj : j ≤ p) : kWho K P (nI q) (nI (p - j) + -1) (aI α 0) = nxt σ q p j (aI α 0) := by
  unfold nxt
  by_cases e : p - j = 0
  · rw [if_pos e, e]
    exact kWho_m1 hok hl hp hK hq _ (Nat.le_refl _)
  · rw [if_neg e, show nI (p - j) + -1 = nI (p - j - 1) from by
      rw [← iI_nat, ← iI_nat, show (-1 : Int32) = iI (-1) from rfl, iI_add]
      congr 1
      omega]
    exact kWho_at hok hl hp hK hq (by omega) _ (Nat.le_refl _)

set_option maxHeartbeats 4000000 in
set_option maxRecDepth 100000 in
theorem m_inARow_r {l : Launch} {s0 : State} {D : va_G} (h0 : x0 l s0 D) (σ ρ : KS) (gF : xG) {ad aa : Nat} {α : aA} {I : Nat → Int32} {V : Nat → Nat → Int32} {M : Nat → Nat → Nat → Int32} {gu : Int32} (hD : DW gF ad I V M) (hA : AH gF aa α) (hok : aOk α) (hl : LT σ α) (hw : KW σ) (hpP : KPl σ) (hwr : KW ρ) (h61 : kA ρ 61 0 = kA σ 61 0) (hK : ∀ c, c < aI α 0 → V 10 c = kKil σ c ∧ V 11 c = iI (kI σ 33 c)) {q : Nat} (hq : q < aI α 1) (hTm : ∀ p c, kO σ 1 q p = some c → kI ρ 34 c = (wT (aFo α) σ gu c q p).toInt) {h : Nat} (hh20 : h ≤ 20) (hht : kHt σ q gu = nI h) {p c : Nat} (hc : kO σ 1 q p = some c)  : xMet l s0 D yX0_inARow cX0_inARow 9 (some .int) (xr 6 0 0 200) [.ref (kA ρ 0 0), .ref aa, .ref ad, .int (nI c), .int 1, .int (nI h)] (kmix ρ gF) (fun r g1 => ∃ X, r = some (.int X) ∧ RR (aFo α) σ gu q p X ∧ g1 = kmix ρ gF) := by
  obtain ⟨ra, rr, hd0, hd3, hd6, hdb, hdr, hdc, hdk, hdx, hdy⟩ := hD.km ρ
  obtain ⟨ca, ga, rm, hat, hac, hag, har⟩ := hA.km ρ
  have hb0 := hok.1
  have hb1 := hok.2.1
  have hkc := ((hpP.1 q p c).mp hc).2.1
  have hcn : c < aI α 0 := by rw [← hl.1]; exact ((hpP.1 q p c).mp hc).1
  have hq2 : q < kA σ 62 0 := by rw [hl.2.1]; exact hq
  have hrm : ∀ p x, kO σ 1 q p = some x → p < 6 ∧ x < aI α 0 ∧ V 11 x = nI p := fun p x e => by
    obtain ⟨e1, e2, e3⟩ := (hpP.1 q p x).mp e
    obtain ⟨-, p2, e4, e5⟩ := hpP.2.1 x q e1 e2
    have := hw.2.2.2.1 q hq2
    rw [hl.1] at e1
    exact ⟨by omega, e1, by rw [(hK x e1).2, e3, iI_nat]⟩
  have e10 : V 10 c = nI q := by rw [(hK c hcn).1]; unfold kKil; rw [hkc]
  have e11 := (hrm p c hc).2.2
  have hp6 := (hrm p c hc).1
  refine xMet.of h0 (by decide +kernel) rfl ?_
  intro zp ze zs zm za zb zf zc hC hr hnm
  refine x_iconst hC dX0_inARow_0 (q := 1) rfl (v := (0)) (by decide) ?_
  refine x_istore hC dX0_inARow_1 (q := 3) rfl rfl ?_
  refine x_iload_n hC dX0_inARow_3 (q := 4) rfl rfl ?_
  refine x_istore hC dX0_inARow_4 (q := 6) rfl rfl ?_
  refine x_aloadr_n hC dX0_inARow_6 (q := 7) rfl rfl ?_
  refine x_aloadr_n hC dX0_inARow_7 (q := 8) rfl rfl ?_
  refine x_aloadr_n hC dX0_inARow_8 (q := 9) rfl rfl ?_
  refine x_get hC xf_X0_120_16 dX0_inARow_9 (q := 12) rfl (n := (120, 0)) hd0 rfl ?_
  refine x_iload_n hC dX0_inARow_12 (q := 13) rfl rfl ?_
  refine x_iald hC dX0_inARow_13 (q := 14) rfl (n := (126, 0)) (hd6 10 (by decide) (by decide)) (j := c) rfl (by omega) (by decide) ?_
  refine x_aloadr_n hC dX0_inARow_14 (q := 15) rfl rfl ?_
  refine x_get hC xf_X0_122_16 dX0_inARow_15 (q := 18) rfl (n := (120, 0)) hd0 rfl ?_
  refine x_iload_n hC dX0_inARow_18 (q := 19) rfl rfl ?_
  refine x_iald hC dX0_inARow_19 (q := 20) rfl (n := (127, 0)) (hd6 11 (by decide) (by decide)) (j := c) rfl (by omega) (by decide) ?_
  refine x_iload hC dX0_inARow_20 (q := 22) rfl rfl ?_
  rw [e11]
  refine x_iadd hC dX0_inARow_22 (q := 23) rfl ?_
  rw [e10, show nI p + 1 = nI (p + 1) from nI_1 p]
  refine x_callV hC xv_X0_124 dX0_inARow_23 (q := 26) rfl rfl (m_X19_who h0 _ (hD.km ρ) (hA.km ρ) hok (nI q) (nI (p + 1))) (nn := (120, 0)) hd0 rfl rfl (Nat.le_of_ble_eq_true rfl) ⟨(by (try dsimp only); omega), (by (try dsimp only); omega)⟩ ⟨(by (try dsimp only); omega), (by (try dsimp only); omega)⟩ (fun v g1 hp => ?_)
  rw [kWho_at hok hl hpP hK hq (by omega) _ (Nat.le_refl _)] at hp
  obtain ⟨rfl, hg1⟩ := hp
  replace hg1 := hg1.symm
  subst hg1
  refine x_istore hC dX0_inARow_26 (q := 28) rfl rfl ?_
  refine x_loop (S := (fun x : Nat × Int32 × Nat => ((0 : Nat), (0 : Nat), kmix ρ gF, ([some (.ref (kA ρ 0 0)), some (.ref aa), some (.ref ad), some (.int (nI c)), some (.int 1), some (.int (nI h)), some (.int x.2.1), some (.int (nI x.2.2)), some (.int (aAt σ q (p + x.1 + 1) (aI α 0)))] : xL), ([] : List Value)))) (Inv := fun x => kO σ 1 q (p + x.1) = some x.2.2 ∧ (∀ i, i < 32 → (bt x.2.1 i = true ↔ ∃ m, 1 ≤ m ∧ m ≤ x.1 ∧ kO σ 1 q (p + m) = some i)) ∧ ∀ i, p ≤ i → i < p + x.1 → wEd (aFo α) σ gu q i) (μ := fun x => 10 - x.1) ?_ (0, 0, c) ⟨hc, fun i _ => by rw [b_0]; exact ⟨fun e => (by cases e), fun ⟨m, a, b, _⟩ => by omega⟩, fun i a b => by omega⟩
  intro x hi ih
  obtain ⟨j, set, at1⟩ := x
  obtain ⟨hat1, hbit, hedge⟩ := hi
  dsimp only at hat1 hbit hedge ih ⊢
  obtain ⟨hj6, han, hv1⟩ := hrm _ _ hat1
  refine x_iload hC dX0_inARow_28 (q := 30) rfl rfl ?_
  refine x_if_lt hC dX0_inARow_30 (q := 33) rfl (tgt := 103) rfl (fun h30 => ?_) (fun h30 => ?_)
  · have hno : ¬ wEd (aFo α) σ gu q (p + j) := fun ⟨x, y, _, e, _⟩ => by
      have hyn := (hrm _ _ e).2.1
      rw [show aAt σ q (p + j + 1) (aI α 0) = nI y from by unfold aAt; rw [e]; exact if_pos hyn] at h30
      exact absurd (nI_le (a := 0) (b := y) (Nat.zero_le _) (by omega)) (Int32.not_le.mpr h30)
    refine x_iload hC dX0_inARow_103 (q := 105) rfl rfl ?_
    exact x_iret hC hr dX0_inARow_105 (Nat.le_of_ble_eq_true rfl) (Nat.le_of_ble_eq_true rfl) ⟨_, rfl, ⟨j, hedge, hno, hbit⟩, rfl⟩
  obtain ⟨d, hd⟩ : ∃ d, kO σ 1 q (p + j + 1) = some d := by
    cases e : kO σ 1 q (p + j + 1) with
    | some d => exact ⟨d, rfl⟩
    | none => exact absurd (show aAt σ q (p + j + 1) (aI α 0) < 0 by unfold aAt; rw [e]; exact (show (-1 : Int32) < 0 by decide)) h30
  obtain ⟨hj7, hdn, hv11⟩ := hrm _ _ hd
  rw [show aAt σ q (p + j + 1) (aI α 0) = nI d from by unfold aAt; rw [hd]; exact if_pos hdn]
  have hat8 : d < 32 := by omega
  refine x_aloadr_n hC dX0_inARow_33 (q := 34) rfl rfl ?_
  refine x_iload hC dX0_inARow_34 (q := 36) rfl rfl ?_
  refine x_iload hC dX0_inARow_36 (q := 38) rfl rfl ?_
  refine x_aloadr_n hC dX0_inARow_38 (q := 39) rfl rfl ?_
  refine x_iload hC dX0_inARow_39 (q := 41) rfl rfl ?_
  refine x_iconst hC dX0_inARow_41 (q := 42) rfl (v := (5)) (by decide) ?_
  refine x_callV hC xv_X0_63 dX0_inARow_42 (q := 45) rfl rfl (m_X2_child_5 h0 ρ gF hwr at1 (by rw [h61, hl.1]; exact han)) (nn := (0, 0)) rfl rfl rfl (Nat.le_of_ble_eq_true rfl) ⟨(by (try dsimp only); omega), (by (try dsimp only); omega)⟩ ⟨(by (try dsimp only); omega), (by (try dsimp only); omega)⟩ (fun v g1 hp => ?_)
  rw [hTm _ _ hat1, toI] at hp
  obtain ⟨rfl, hg1⟩ := hp
  replace hg1 := hg1.symm
  subst hg1
  refine x_aloadr_n hC dX0_inARow_45 (q := 46) rfl rfl ?_
  refine x_iload hC dX0_inARow_46 (q := 48) rfl rfl ?_
  refine x_iconst hC dX0_inARow_48 (q := 49) rfl (v := (5)) (by decide) ?_
  refine x_callV hC xv_X0_63 dX0_inARow_49 (q := 52) rfl rfl (m_X2_child_5 h0 ρ gF hwr d (by rw [h61, hl.1]; exact hdn)) (nn := (0, 0)) rfl rfl rfl (Nat.le_of_ble_eq_true rfl) ⟨(by (try dsimp only); omega), (by (try dsimp only); omega)⟩ ⟨(by (try dsimp only); omega), (by (try dsimp only); omega)⟩ (fun v g1 hp => ?_)
  rw [hTm _ _ hd, toI] at hp
  obtain ⟨rfl, hg1⟩ := hp
  replace hg1 := hg1.symm
  subst hg1
  refine x_isub hC dX0_inARow_52 (q := 53) rfl ?_
  refine x_callS hC xv_X0_128 dX0_inARow_53 (q := 56) rfl rfl (m_J0_abs h0 _ (wT (aFo α) σ gu at1 q (p + j) - wT (aFo α) σ gu d q (p + j + 1))) rfl (Nat.le_of_ble_eq_true rfl) ⟨(by (try dsimp only); omega), (by (try dsimp only); omega)⟩ ⟨(by (try dsimp only); omega), (by (try dsimp only); omega)⟩ (fun v g1 hp => ?_)
  obtain ⟨za, zb1, zb2, zb3⟩ : ∃ z : Int, wT (aFo α) σ gu at1 q (p + j) = iI z ∧ 0 ≤ z ∧ z ≤ 99 := by unfold wT; rw [hht]; exact aTempR hok hl han hh20 (by omega)
  obtain ⟨zc1, zd1, zd2, zd3⟩ : ∃ z : Int, wT (aFo α) σ gu d q (p + j + 1) = iI z ∧ 0 ≤ z ∧ z ≤ 99 := by unfold wT; rw [hht]; exact aTempR hok hl hdn hh20 (by omega)
  obtain ⟨z, hz1, hz2, hz3, hz4⟩ := abs99 zb1 zd1 ⟨zb2, zb3⟩ ⟨zd2, zd3⟩
  rw [hz1] at hp
  obtain ⟨rfl, hg1⟩ := hp
  replace hg1 := hg1.symm
  subst hg1
  refine x_iload hC dX0_inARow_56 (q := 58) rfl rfl ?_
  refine x_callV hC xv_X0_131 dX0_inARow_58 (q := 61) rfl rfl (m_X1_sticks h0 _ (hA.km ρ) hok han hdn (z := z) (h := (h : Int)) ⟨by omega, by omega⟩ ⟨by omega, by omega⟩) (nn := (101, 0)) hat rfl rfl (Nat.le_of_ble_eq_true rfl) ⟨(by (try dsimp only); omega), (by (try dsimp only); omega)⟩ ⟨(by (try dsimp only); omega), (by (try dsimp only); omega)⟩ (fun v g1 hp => ?_)
  have hsk := aStk hok hl han hdn (h := (h : Int)) ⟨by omega, by omega⟩ ⟨hz2, hz3⟩ hz1
  rw [← hsk, iI_nat, ← hht] at hp
  obtain ⟨rfl, hg1⟩ := hp
  replace hg1 := hg1.symm
  subst hg1
  refine x_if_eq hC dX0_inARow_61 (q := 64) rfl (tgt := 103) rfl (fun h61_ => ?_) (fun h61_ => ?_)
  · have hno : ¬ wEd (aFo α) σ gu q (p + j) := fun ⟨x, y, e1, e2, e3⟩ => by
      rw [hat1] at e1; cases e1
      rw [hd] at e2; cases e2
      exact absurd ((if_neg e3).symm.trans h61_) (by decide)
    refine x_iload hC dX0_inARow_103 (q := 105) rfl rfl ?_
    exact x_iret hC hr dX0_inARow_105 (Nat.le_of_ble_eq_true rfl) (Nat.le_of_ble_eq_true rfl) ⟨_, rfl, ⟨j, hedge, hno, hbit⟩, rfl⟩
  have hedg : wEd (aFo α) σ gu q (p + j) := ⟨at1, d, hat1, hd, fun w => h61_ (if_pos w)⟩
  refine x_iload hC dX0_inARow_64 (q := 66) rfl rfl ?_
  refine x_iconst hC dX0_inARow_66 (q := 67) rfl (v := (1)) (by decide) ?_
  refine x_iload hC dX0_inARow_67 (q := 69) rfl rfl ?_
  refine x_ishl hC dX0_inARow_69 (q := 70) rfl ?_
  refine x_ior hC dX0_inARow_70 (q := 71) rfl ?_
  refine x_istore hC dX0_inARow_71 (q := 73) rfl rfl ?_
  refine x_iload hC dX0_inARow_73 (q := 75) rfl rfl ?_
  refine x_istore hC dX0_inARow_75 (q := 77) rfl rfl ?_
  refine x_aloadr_n hC dX0_inARow_77 (q := 78) rfl rfl ?_
  refine x_aloadr_n hC dX0_inARow_78 (q := 79) rfl rfl ?_
  refine x_aloadr_n hC dX0_inARow_79 (q := 80) rfl rfl ?_
  refine x_get hC xf_X0_120_16 dX0_inARow_80 (q := 83) rfl (n := (120, 0)) hd0 rfl ?_
  refine x_iload_n hC dX0_inARow_83 (q := 84) rfl rfl ?_
  refine x_iald hC dX0_inARow_84 (q := 85) rfl (n := (126, 0)) (hd6 10 (by decide) (by decide)) (j := c) rfl (by omega) (by decide) ?_
  refine x_aloadr_n hC dX0_inARow_85 (q := 86) rfl rfl ?_
  refine x_get hC xf_X0_122_16 dX0_inARow_86 (q := 89) rfl (n := (120, 0)) hd0 rfl ?_
  refine x_iload hC dX0_inARow_89 (q := 91) rfl rfl ?_
  refine x_iald hC dX0_inARow_91 (q := 92) rfl (n := (127, 0)) (hd6 11 (by decide) (by decide)) (j := d) rfl (by omega) (by decide) ?_
  refine x_iload hC dX0_inARow_92 (q := 94) rfl rfl ?_
  rw [hv11]
  refine x_iadd hC dX0_inARow_94 (q := 95) rfl ?_
  rw [e10, show nI (p + j + 1) + 1 = nI (p + j + 1 + 1) from nI_1 _]
  refine x_callV hC xv_X0_124 dX0_inARow_95 (q := 98) rfl rfl (m_X19_who h0 _ (hD.km ρ) (hA.km ρ) hok (nI q) (nI (p + j + 1 + 1))) (nn := (120, 0)) hd0 rfl rfl (Nat.le_of_ble_eq_true rfl) ⟨(by (try dsimp only); omega), (by (try dsimp only); omega)⟩ ⟨(by (try dsimp only); omega), (by (try dsimp only); omega)⟩ (fun v g1 hp => ?_)
  rw [kWho_at hok hl hpP hK hq (by omega) _ (Nat.le_refl _)] at hp
  obtain ⟨rfl, hg1⟩ := hp
  replace hg1 := hg1.symm
  subst hg1
  refine x_istore hC dX0_inARow_98 (q := 100) rfl rfl ?_
  refine x_goto hC dX0_inARow_100 (tgt := 28) rfl ?_
  refine ih (j + 1, _, d) ⟨hd, bits_s (w := kO σ 1 q) (s := fun m => p + m) hat8 hd hbit, fun i a b => ?_⟩ (by (try dsimp only); omega)
  by_cases e : i = p + j
  · rw [e]; exact hedg
  · exact hedge i a (by (try dsimp only at b); omega)

set_option maxHeartbeats 4000000 in
set_option maxRecDepth 100000 in
theorem m_inARow_l {l : Launch} {s0 : State} {D : va_G} (h0 : x0 l s0 D) (σ ρ : KS) (gF : xG) {ad aa : Nat} {α : aA} {I : Nat → Int32} {V : Nat → Nat → Int32} {M : Nat → Nat → Nat → Int32} {gu : Int32} (hD : DW gF ad I V M) (hA : AH gF aa α) (hok : aOk α) (hl : LT σ α) (hw : KW σ) (hpP : KPl σ) (hwr : KW ρ) (h61 : kA ρ 61 0 = kA σ 61 0) (hK : ∀ c, c < aI α 0 → V 10 c = kKil σ c ∧ V 11 c = iI (kI σ 33 c)) {q : Nat} (hq : q < aI α 1) (hTm : ∀ p c, kO σ 1 q p = some c → kI ρ 34 c = (wT (aFo α) σ gu c q p).toInt) {h : Nat} (hh20 : h ≤ 20) (hht : kHt σ q gu = nI h) {p c : Nat} (hc : kO σ 1 q p = some c)  : xMet l s0 D yX0_inARow cX0_inARow 9 (some .int) (xr 6 0 0 200) [.ref (kA ρ 0 0), .ref aa, .ref ad, .int (nI c), .int (-1), .int (nI h)] (kmix ρ gF) (fun r g1 => ∃ X, r = some (.int X) ∧ LL (aFo α) σ gu q p X ∧ g1 = kmix ρ gF) := by
  obtain ⟨ra, rr, hd0, hd3, hd6, hdb, hdr, hdc, hdk, hdx, hdy⟩ := hD.km ρ
  obtain ⟨ca, ga, rm, hat, hac, hag, har⟩ := hA.km ρ
  have hb0 := hok.1
  have hb1 := hok.2.1
  have hkc := ((hpP.1 q p c).mp hc).2.1
  have hcn : c < aI α 0 := by rw [← hl.1]; exact ((hpP.1 q p c).mp hc).1
  have hq2 : q < kA σ 62 0 := by rw [hl.2.1]; exact hq
  have hrm : ∀ p x, kO σ 1 q p = some x → p < 6 ∧ x < aI α 0 ∧ V 11 x = nI p := fun p x e => by
    obtain ⟨e1, e2, e3⟩ := (hpP.1 q p x).mp e
    obtain ⟨-, p2, e4, e5⟩ := hpP.2.1 x q e1 e2
    have := hw.2.2.2.1 q hq2
    rw [hl.1] at e1
    exact ⟨by omega, e1, by rw [(hK x e1).2, e3, iI_nat]⟩
  have e10 : V 10 c = nI q := by rw [(hK c hcn).1]; unfold kKil; rw [hkc]
  have e11 := (hrm p c hc).2.2
  have hp6 := (hrm p c hc).1
  refine xMet.of h0 (by decide +kernel) rfl ?_
  intro zp ze zs zm za zb zf zc hC hr hnm
  refine x_iconst hC dX0_inARow_0 (q := 1) rfl (v := (0)) (by decide) ?_
  refine x_istore hC dX0_inARow_1 (q := 3) rfl rfl ?_
  refine x_iload_n hC dX0_inARow_3 (q := 4) rfl rfl ?_
  refine x_istore hC dX0_inARow_4 (q := 6) rfl rfl ?_
  refine x_aloadr_n hC dX0_inARow_6 (q := 7) rfl rfl ?_
  refine x_aloadr_n hC dX0_inARow_7 (q := 8) rfl rfl ?_
  refine x_aloadr_n hC dX0_inARow_8 (q := 9) rfl rfl ?_
  refine x_get hC xf_X0_120_16 dX0_inARow_9 (q := 12) rfl (n := (120, 0)) hd0 rfl ?_
  refine x_iload_n hC dX0_inARow_12 (q := 13) rfl rfl ?_
  refine x_iald hC dX0_inARow_13 (q := 14) rfl (n := (126, 0)) (hd6 10 (by decide) (by decide)) (j := c) rfl (by omega) (by decide) ?_
  refine x_aloadr_n hC dX0_inARow_14 (q := 15) rfl rfl ?_
  refine x_get hC xf_X0_122_16 dX0_inARow_15 (q := 18) rfl (n := (120, 0)) hd0 rfl ?_
  refine x_iload_n hC dX0_inARow_18 (q := 19) rfl rfl ?_
  refine x_iald hC dX0_inARow_19 (q := 20) rfl (n := (127, 0)) (hd6 11 (by decide) (by decide)) (j := c) rfl (by omega) (by decide) ?_
  refine x_iload hC dX0_inARow_20 (q := 22) rfl rfl ?_
  rw [e11]
  refine x_iadd hC dX0_inARow_22 (q := 23) rfl ?_
  rw [e10]
  refine x_callV hC xv_X0_124 dX0_inARow_23 (q := 26) rfl rfl (m_X19_who h0 _ (hD.km ρ) (hA.km ρ) hok (nI q) (nI p + -1)) (nn := (120, 0)) hd0 rfl rfl (Nat.le_of_ble_eq_true rfl) ⟨(by (try dsimp only); omega), (by (try dsimp only); omega)⟩ ⟨(by (try dsimp only); omega), (by (try dsimp only); omega)⟩ (fun v g1 hp => ?_)
  rw [show nI p = nI (p - 0) from rfl, nxt_who hok hl hpP hK hq (by omega) (Nat.zero_le p)] at hp
  obtain ⟨rfl, hg1⟩ := hp
  replace hg1 := hg1.symm
  subst hg1
  refine x_istore hC dX0_inARow_26 (q := 28) rfl rfl ?_
  refine x_loop (S := (fun x : Nat × Int32 × Nat => ((0 : Nat), (0 : Nat), kmix ρ gF, ([some (.ref (kA ρ 0 0)), some (.ref aa), some (.ref ad), some (.int (nI c)), some (.int (-1)), some (.int (nI h)), some (.int x.2.1), some (.int (nI x.2.2)), some (.int (nxt σ q p x.1 (aI α 0)))] : xL), ([] : List Value)))) (Inv := fun x => x.1 ≤ p ∧ kO σ 1 q (p - x.1) = some x.2.2 ∧ (∀ i, i < 32 → (bt x.2.1 i = true ↔ ∃ m, 1 ≤ m ∧ m ≤ x.1 ∧ kO σ 1 q (p - m) = some i)) ∧ ∀ i, p - x.1 ≤ i → i < p → wEd (aFo α) σ gu q i) (μ := fun x => 10 - x.1) ?_ (0, 0, c) ⟨Nat.zero_le _, hc, fun i _ => by rw [b_0]; exact ⟨fun e => (by cases e), fun ⟨m, a, b, _⟩ => by omega⟩, fun i a b => by omega⟩
  intro x hi ih
  obtain ⟨j, set, at1⟩ := x
  obtain ⟨hjp, hat1, hbit, hedge⟩ := hi
  dsimp only at hjp hat1 hbit hedge ih ⊢
  obtain ⟨hj6, han, hv1⟩ := hrm _ _ hat1
  refine x_iload hC dX0_inARow_28 (q := 30) rfl rfl ?_
  refine x_if_lt hC dX0_inARow_30 (q := 33) rfl (tgt := 103) rfl (fun h30 => ?_) (fun h30 => ?_)
  · have hno : p - j = 0 ∨ ¬ wEd (aFo α) σ gu q (p - j - 1) := by
      by_cases e0 : p - j = 0
      · exact Or.inl e0
      · refine Or.inr (fun ⟨x, y, e, _, _⟩ => ?_)
        have hyn := (hrm _ _ e).2.1
        rw [show nxt σ q p j (aI α 0) = nI x from by unfold nxt; rw [if_neg e0]; unfold aAt; rw [e]; exact if_pos hyn] at h30
        exact absurd (nI_le (a := 0) (b := x) (Nat.zero_le _) (by omega)) (Int32.not_le.mpr h30)
    refine x_iload hC dX0_inARow_103 (q := 105) rfl rfl ?_
    exact x_iret hC hr dX0_inARow_105 (Nat.le_of_ble_eq_true rfl) (Nat.le_of_ble_eq_true rfl) ⟨_, rfl, ⟨j, hjp, hedge, hno, hbit⟩, rfl⟩
  obtain ⟨d, hj0, hd⟩ : ∃ d, ¬ p - j = 0 ∧ kO σ 1 q (p - j - 1) = some d := by
    unfold nxt at h30
    by_cases e0 : p - j = 0
    · rw [if_pos e0] at h30; exact absurd (show (-1 : Int32) < 0 by decide) h30
    · rw [if_neg e0] at h30
      cases e : kO σ 1 q (p - j - 1) with
      | some d => exact ⟨d, e0, rfl⟩
      | none => exact absurd (show aAt σ q (p - j - 1) (aI α 0) < 0 by unfold aAt; rw [e]; exact (show (-1 : Int32) < 0 by decide)) h30
  have hj1 : j + 1 ≤ p := by omega
  rw [show p - j - 1 = p - (j + 1) by omega] at hd
  obtain ⟨hj7, hdn, hv11⟩ := hrm _ _ hd
  rw [show nxt σ q p j (aI α 0) = nI d from by unfold nxt; rw [if_neg hj0, show p - j - 1 = p - (j + 1) by omega]; unfold aAt; rw [hd]; exact if_pos hdn]
  have hat8 : d < 32 := by omega
  refine x_aloadr_n hC dX0_inARow_33 (q := 34) rfl rfl ?_
  refine x_iload hC dX0_inARow_34 (q := 36) rfl rfl ?_
  refine x_iload hC dX0_inARow_36 (q := 38) rfl rfl ?_
  refine x_aloadr_n hC dX0_inARow_38 (q := 39) rfl rfl ?_
  refine x_iload hC dX0_inARow_39 (q := 41) rfl rfl ?_
  refine x_iconst hC dX0_inARow_41 (q := 42) rfl (v := (5)) (by decide) ?_
  refine x_callV hC xv_X0_63 dX0_inARow_42 (q := 45) rfl rfl (m_X2_child_5 h0 ρ gF hwr at1 (by rw [h61, hl.1]; exact han)) (nn := (0, 0)) rfl rfl rfl (Nat.le_of_ble_eq_true rfl) ⟨(by (try dsimp only); omega), (by (try dsimp only); omega)⟩ ⟨(by (try dsimp only); omega), (by (try dsimp only); omega)⟩ (fun v g1 hp => ?_)
  rw [hTm _ _ hat1, toI] at hp
  obtain ⟨rfl, hg1⟩ := hp
  replace hg1 := hg1.symm
  subst hg1
  refine x_aloadr_n hC dX0_inARow_45 (q := 46) rfl rfl ?_
  refine x_iload hC dX0_inARow_46 (q := 48) rfl rfl ?_
  refine x_iconst hC dX0_inARow_48 (q := 49) rfl (v := (5)) (by decide) ?_
  refine x_callV hC xv_X0_63 dX0_inARow_49 (q := 52) rfl rfl (m_X2_child_5 h0 ρ gF hwr d (by rw [h61, hl.1]; exact hdn)) (nn := (0, 0)) rfl rfl rfl (Nat.le_of_ble_eq_true rfl) ⟨(by (try dsimp only); omega), (by (try dsimp only); omega)⟩ ⟨(by (try dsimp only); omega), (by (try dsimp only); omega)⟩ (fun v g1 hp => ?_)
  rw [hTm _ _ hd, toI] at hp
  obtain ⟨rfl, hg1⟩ := hp
  replace hg1 := hg1.symm
  subst hg1
  refine x_isub hC dX0_inARow_52 (q := 53) rfl ?_
  refine x_callS hC xv_X0_128 dX0_inARow_53 (q := 56) rfl rfl (m_J0_abs h0 _ (wT (aFo α) σ gu at1 q (p - j) - wT (aFo α) σ gu d q (p - (j + 1)))) rfl (Nat.le_of_ble_eq_true rfl) ⟨(by (try dsimp only); omega), (by (try dsimp only); omega)⟩ ⟨(by (try dsimp only); omega), (by (try dsimp only); omega)⟩ (fun v g1 hp => ?_)
  obtain ⟨za, zb1, zb2, zb3⟩ : ∃ z : Int, wT (aFo α) σ gu at1 q (p - j) = iI z ∧ 0 ≤ z ∧ z ≤ 99 := by unfold wT; rw [hht]; exact aTempR hok hl han hh20 (by omega)
  obtain ⟨zc1, zd1, zd2, zd3⟩ : ∃ z : Int, wT (aFo α) σ gu d q (p - (j + 1)) = iI z ∧ 0 ≤ z ∧ z ≤ 99 := by unfold wT; rw [hht]; exact aTempR hok hl hdn hh20 (by omega)
  obtain ⟨z, hz1, hz2, hz3, hz4⟩ := abs99 zb1 zd1 ⟨zb2, zb3⟩ ⟨zd2, zd3⟩
  rw [hz1] at hp
  obtain ⟨rfl, hg1⟩ := hp
  replace hg1 := hg1.symm
  subst hg1
  refine x_iload hC dX0_inARow_56 (q := 58) rfl rfl ?_
  refine x_callV hC xv_X0_131 dX0_inARow_58 (q := 61) rfl rfl (m_X1_sticks h0 _ (hA.km ρ) hok han hdn (z := z) (h := (h : Int)) ⟨by omega, by omega⟩ ⟨by omega, by omega⟩) (nn := (101, 0)) hat rfl rfl (Nat.le_of_ble_eq_true rfl) ⟨(by (try dsimp only); omega), (by (try dsimp only); omega)⟩ ⟨(by (try dsimp only); omega), (by (try dsimp only); omega)⟩ (fun v g1 hp => ?_)
  obtain ⟨z2, hy1, hy2, hy3, hy4⟩ := abs99 zd1 zb1 ⟨zd2, zd3⟩ ⟨zb2, zb3⟩
  rw [show z2 = z by omega] at hy1
  have hsk := aStk hok hl hdn han (h := (h : Int)) ⟨by omega, by omega⟩ ⟨hz2, hz3⟩ hy1
  rw [aSt_c, ← hsk, iI_nat, ← hht] at hp
  obtain ⟨rfl, hg1⟩ := hp
  replace hg1 := hg1.symm
  subst hg1
  refine x_if_eq hC dX0_inARow_61 (q := 64) rfl (tgt := 103) rfl (fun h61_ => ?_) (fun h61_ => ?_)
  · have hno : p - j = 0 ∨ ¬ wEd (aFo α) σ gu q (p - j - 1) := Or.inr (fun ⟨x, y, e1, e2, e3⟩ => by
      rw [show p - j - 1 = p - (j + 1) by omega] at e1 e2 e3
      rw [show p - (j + 1) + 1 = p - j by omega] at e2
      rw [hat1] at e2; cases e2
      rw [hd] at e1; cases e1
      unfold wS at e3
      rw [show p - (j + 1) + 1 = p - j by omega] at e3
      exact absurd ((if_neg e3).symm.trans h61_) (by decide))
    refine x_iload hC dX0_inARow_103 (q := 105) rfl rfl ?_
    exact x_iret hC hr dX0_inARow_105 (Nat.le_of_ble_eq_true rfl) (Nat.le_of_ble_eq_true rfl) ⟨_, rfl, ⟨j, hjp, hedge, hno, hbit⟩, rfl⟩
  have hedg : wEd (aFo α) σ gu q (p - (j + 1)) := ⟨d, at1, hd, by rw [show p - (j + 1) + 1 = p - j by omega]; exact hat1, by
    unfold wS
    rw [show p - (j + 1) + 1 = p - j by omega]
    exact fun w => h61_ (if_pos w)⟩
  refine x_iload hC dX0_inARow_64 (q := 66) rfl rfl ?_
  refine x_iconst hC dX0_inARow_66 (q := 67) rfl (v := (1)) (by decide) ?_
  refine x_iload hC dX0_inARow_67 (q := 69) rfl rfl ?_
  refine x_ishl hC dX0_inARow_69 (q := 70) rfl ?_
  refine x_ior hC dX0_inARow_70 (q := 71) rfl ?_
  refine x_istore hC dX0_inARow_71 (q := 73) rfl rfl ?_
  refine x_iload hC dX0_inARow_73 (q := 75) rfl rfl ?_
  refine x_istore hC dX0_inARow_75 (q := 77) rfl rfl ?_
  refine x_aloadr_n hC dX0_inARow_77 (q := 78) rfl rfl ?_
  refine x_aloadr_n hC dX0_inARow_78 (q := 79) rfl rfl ?_
  refine x_aloadr_n hC dX0_inARow_79 (q := 80) rfl rfl ?_
  refine x_get hC xf_X0_120_16 dX0_inARow_80 (q := 83) rfl (n := (120, 0)) hd0 rfl ?_
  refine x_iload_n hC dX0_inARow_83 (q := 84) rfl rfl ?_
  refine x_iald hC dX0_inARow_84 (q := 85) rfl (n := (126, 0)) (hd6 10 (by decide) (by decide)) (j := c) rfl (by omega) (by decide) ?_
  refine x_aloadr_n hC dX0_inARow_85 (q := 86) rfl rfl ?_
  refine x_get hC xf_X0_122_16 dX0_inARow_86 (q := 89) rfl (n := (120, 0)) hd0 rfl ?_
  refine x_iload hC dX0_inARow_89 (q := 91) rfl rfl ?_
  refine x_iald hC dX0_inARow_91 (q := 92) rfl (n := (127, 0)) (hd6 11 (by decide) (by decide)) (j := d) rfl (by omega) (by decide) ?_
  refine x_iload hC dX0_inARow_92 (q := 94) rfl rfl ?_
  rw [hv11]
  refine x_iadd hC dX0_inARow_94 (q := 95) rfl ?_
  rw [e10]
  refine x_callV hC xv_X0_124 dX0_inARow_95 (q := 98) rfl rfl (m_X19_who h0 _ (hD.km ρ) (hA.km ρ) hok (nI q) (nI (p - (j + 1)) + -1)) (nn := (120, 0)) hd0 rfl rfl (Nat.le_of_ble_eq_true rfl) ⟨(by (try dsimp only); omega), (by (try dsimp only); omega)⟩ ⟨(by (try dsimp only); omega), (by (try dsimp only); omega)⟩ (fun v g1 hp => ?_)
  rw [nxt_who hok hl hpP hK hq (by omega) hj1] at hp
  obtain ⟨rfl, hg1⟩ := hp
  replace hg1 := hg1.symm
  subst hg1
  refine x_istore hC dX0_inARow_98 (q := 100) rfl rfl ?_
  refine x_goto hC dX0_inARow_100 (tgt := 28) rfl ?_
  refine ih (j + 1, _, d) ⟨hj1, hd, bits_s (w := kO σ 1 q) (s := fun m => p - m) hat8 hd hbit, fun i a b => ?_⟩ (by (try dsimp only); omega)
  by_cases e : i = p - (j + 1)
  · rw [e]; exact hedg
  · exact hedge i (by (try dsimp only at a); omega) b
