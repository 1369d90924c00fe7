/-! passes -/
/-- a week has passed -/
def Psd (F : Nat → Option (aEnv → Int64)) (σ : KS) (gu : Int32) (K : Nat) (ρ : KS) : Prop := WkR F σ gu K ρ ∧ kI ρ 3 0 = kI σ 3 0 + 1 ∧ (∀ c, kI ρ 34 c = kI (kWk F gu σ) 34 c) ∧ KW ρ ∧ kA ρ 61 0 = kA σ 61 0 ∧ kA ρ 62 0 = kA σ 62 0 ∧ (∀ q, kA ρ 25 q = kA σ 25 q) ∧ kA ρ 63 0 = kA σ 63 0 + wCn F σ K ∧ (∀ k, k < kA σ 63 0 → kV ρ 2 k = kV σ 2 k) ∧ ∀ q, q < K → wF F σ q → kV ρ 2 (kA σ 63 0 + wCn F σ q) = wRow F σ gu q
def LW (σ : KS) (α : aA) : Prop := kI σ 8 0 = aI α 7 ∧ kI σ 9 0 = aI α 8
theorem kCnt_0 {w : Nat → Option Nat} (h : ∀ p, w p = none) : ∀ n, kCnt w n = 0
  | 0 => rfl
  | n + 1 => by rw [kCnt_n (h n)]; exact kCnt_0 h n
/-- the brothers of those who were fired before stay -/
theorem kBr_week {F : Nat → Option (aEnv → Int64)} {σ ρ : KS} {gu : Int32} {n : Nat} (hp : KPl σ) (h8 : kA σ 61 0 ≤ 8) (hM : KMk σ) (hr : KRw σ) (h61 : kA ρ 61 0 = kA σ 61 0) (hW : WkR F σ gu n ρ) {c : Nat} (hc : c < kA σ 61 0) (hfd : ¬ kI σ 34 c = -1) {S : Int32} (h : kBr σ c S) : kBr ρ c S := by
  obtain ⟨b1, b2, b3⟩ := h
  have hfree : ∀ k i, k < kA σ 61 0 → ¬ kI σ 34 k = -1 → ¬ wJ F σ gu n k i := fun k i hk hf ⟨q, p, _, _, d⟩ => by
    rcases d with d | d
    · exact hf (hr k q hk ((hp.1 q p k).mp d.1).2.1)
    · exact hf (hr k q hk ((hp.1 q (p + 1) k).mp d.2.1).2.1)
  obtain ⟨T, hT⟩ : ∃ T : Int32, ∀ i, i < 32 → (bt T i = true ↔ bt S i = true ∧ i < kA σ 61 0 ∧ ¬ kI σ 34 i = -1) := by
    have : ∀ m, ∃ T : Int32, ∀ i, i < 32 → (bt T i = true ↔ bt S i = true ∧ (i < m ∧ ¬ kI σ 34 i = -1)) := by
      intro m
      induction m with
      | zero => exact ⟨0, fun i hi => by rw [b_0]; exact ⟨fun e => (by cases e), fun e => absurd e.2.1 (Nat.not_lt_zero i)⟩⟩
      | succ m ih =>
        obtain ⟨T, hT⟩ := ih
        by_cases e : m < 32 ∧ bt S m = true ∧ ¬ kI σ 34 m = -1
        · refine ⟨T ||| ((1 : Int32) <<< (nI m &&& 31)), fun i hi => ?_⟩
          rw [b_or, b_one e.1 hi, Bool.or_eq_true, hT i hi, decide_eq_true_eq]
          constructor
          · rintro (a | a)
            · exact ⟨a.1, by omega, a.2.2⟩
            · subst a; exact ⟨e.2.1, by omega, e.2.2⟩
          · rintro ⟨a, b, d⟩
            by_cases v : i = m
            · exact Or.inr v
            · exact Or.inl ⟨a, by omega, d⟩
        · refine ⟨T, fun i hi => ?_⟩
          rw [hT i hi]
          refine ⟨fun a => ⟨a.1, by omega, a.2.2⟩, fun a => ⟨a.1, ?_, a.2.2⟩⟩
          by_cases v : i = m
          · subst v; exact absurd ⟨hi, a.1, a.2.2⟩ e
          · omega
    exact this _
  have hall : ∀ i, i < 32 → bt S i = true → i < kA σ 61 0 ∧ ¬ kI σ 34 i = -1 := fun i hi hb => by
    have h1 : bt T c = true := (hT c (by omega)).mpr ⟨b1, hc, hfd⟩
    have h2 : kCl σ T := fun k hk hb i hi hbi => by
      obtain ⟨t1, t2, t3⟩ := (hT k (by omega)).mp hb
      have m1 := (hM k hk).1 i hi hbi
      refine (hT i hi).mpr ⟨b2 k hk t1 i hi hbi, m1.1, fun w => ?_⟩
      have := (hM i m1.1).2 w k (by omega)
      rw [m1.2.2] at this
      cases this
    exact ((hT i hi).mp (b3 T h1 h2 i hi hb)).2
  refine ⟨b1, fun k hk hb i hi hbi => ?_, fun T2 h1 h2 => b3 T2 h1 (fun k hk hb i hi hbi => h2 k (by rw [h61]; exact hk) hb i hi ((hW.2.2.2.2.2.2.1 k i hi).mpr (Or.inl hbi)))⟩
  rw [h61] at hk
  rcases (hW.2.2.2.2.2.2.1 k i hi).mp hbi with w | w
  · exact b2 k hk hb i hi w
  · exact absurd w (hfree k i hk (hall k (by omega) hb).2)
theorem wF_0 {F : Nat → Option (aEnv → Int64)} {σ : KS} (hp : KPl σ) (h8 : kA σ 61 0 ≤ 8) (h3 : kA σ 62 0 ≤ 3) {q : Nat} (hq : q < kA σ 62 0) : kFb F σ q 0 ↔ wF F σ q := by
  have h := (wkN (F := F) (gu := 0) hp h8 h3 (kA σ 62 0) (Nat.le_refl _)).2.2.2.2.2.2.2 q (by omega)
  show bt (iI (kI (kWk F 0 σ) 5 0)) q = true ↔ _
  rw [show kI (kWk F 0 σ) 5 0 = kI (kWkN F 0 σ (kA σ 62 0)) 5 0 from by unfold kWk; rw [kI_kIs, if_neg (fun w => absurd w.1 (by decide))], h]
  exact ⟨fun a => a.2, fun a => ⟨hq, a⟩⟩
theorem kFnd_0 {F : Nat → Option (aEnv → Int64)} {σ : KS} {q : Nat} {x : Int32} (h : kFnd F σ q 40 x) : x = 0 ↔ kFb F σ q 0 := by
  rcases h with ⟨a, b⟩ | ⟨j, a, b, c, d⟩
  · rw [a]
    exact ⟨fun e => absurd e (by decide), fun e => absurd e (b 0 (by decide))⟩
  · constructor
    · intro e
      rw [b] at e
      have : j = 0 := (nI_eq (b := 0) (by omega) (by decide)).mp e
      subst this; exact c
    · intro e
      cases j with
      | zero => exact b
      | succ j => exact absurd e (d 0 (by omega))

theorem DC_week {F : Nat → Option (aEnv → Int64)} {σ ρ : KS} {gu : Int32} {n : Nat} {V : Nat → Nat → Int32} (hp : KPl σ) (h8 : kA σ 61 0 ≤ 8) (hM : KMk σ) (hr : KRw σ) (h61 : kA ρ 61 0 = kA σ 61 0) (hW : WkR F σ gu n ρ) {c : Nat} (hc : c < kA σ 61 0) (hn : ¬ wA F σ n c) (h : DC σ V c) : DC ρ V c := by
  obtain ⟨e1, e2, e3, e4⟩ := hW.2.2.2.2.1 c hn
  obtain ⟨a1, a2, a3, a4, a5, a6⟩ := h
  unfold DC
  rw [e2, e3, show kKil ρ c = kKil σ c from by unfold kKil; rw [e1]]
  exact ⟨a1, a2, a3, a4, a5, fun w => kBr_week hp h8 hM hr h61 hW hc (fun v => w (by rw [v]; rfl)) (a6 w)⟩

set_option maxHeartbeats 4000000 in
set_option maxRecDepth 100000 in
theorem m_X0_passes {l : Launch} {s0 : State} {D : va_G} (h0 : x0 l s0 D) (σ ρ : KS) (gF : xG) {ad aa : Nat} {α : aA} {I : Nat → Int32} {V : Nat → Nat → Int32} {M : Nat → Nat → Nat → Int32} {st : Nat} (hst : st < 4) (hD : DW gF ad I V M) (hA : AH gF aa α) (hok : aOk α) (hl : LT σ α) (hLW : LW σ α) (hw : KW σ) (hpP : KPl σ) (hNb : KNb σ) (hM : KMk σ) (hRw : KRw σ) (h7 : kA σ 63 0 ≤ 7) (h140 : gF (140, 0) = none) (hI : I 0 = iI (kI σ 7 0) ∧ I 1 = nI (kA σ 63 0) ∧ I 2 = iI (kI σ 3 0) ∧ I 3 = iI (kV σ 1 0 3) ∧ I 4 = iI (kI (kGs (aFo α) (kIs σ 4 0 1) 1) 7 0)) (hAI : AI (aFo α) σ V M (kA σ 63 0) (aI α 1) (aI α 0)) (hPs : Psd (aFo α) σ (nI st) (aI α 1) ρ)  : xMet l s0 D yX0_passes cX0_passes 9 (some .boolean) (xr 8 1 3 400) [.ref (kA ρ 0 0), .ref aa, .ref ad, .int (nI st)] (kmix ρ gF) (fun r g1 => r = some (.int 1) ∧ g1 = kmix ρ gF) := by
  obtain ⟨hW, hP3, hP34, hwr, h61, h62, h25, h63, hold, hrow⟩ := id hPs
  have hDx : ∀ x, DW (xu gF (140, 0) x) ad I V M := fun x => hD.ext (fun n h1 h2 => xu_ne (fun w => by rw [w] at h2; dsimp only at h2; omega))
  have hAx : ∀ x, AH (xu gF (140, 0) x) aa α := fun x => hA.ext (fun n h1 h2 => xu_ne (fun w => by rw [w] at h2; dsimp only at h2; omega))
  obtain ⟨ra, rr, hd0', hd3', hd6', -, -, -, -, -, -⟩ := id hD
  obtain ⟨ca, ga, rm, hat', -, -, -⟩ := id hA
  have hd0 : ∀ x, kmix ρ (xu gF (140, 0) x) (120, 0) = _ := fun x => (kmix_F _ _ _ rfl).trans ((xu_ne (n_fst rfl)).trans hd0')
  have hd3 : ∀ x k, 5 ≤ k → k < 10 → kmix ρ (xu gF (140, 0) x) (116 + k, 0) = some (ra k, xAi .int 3 (V k)) := fun x k a b => (kmix_F _ _ _ (bf40 (by dsimp only; omega))).trans ((xu_ne (fun w => by injection w with w1 w2; omega)).trans (hd3' k a b))
  have hd6 : ∀ x k, 10 ≤ k → k < 15 → kmix ρ (xu gF (140, 0) x) (116 + k, 0) = some (ra k, xAi .int 6 (V k)) := fun x k a b => (kmix_F _ _ _ (bf40 (by dsimp only; omega))).trans ((xu_ne (fun w => by injection w with w1 w2; omega)).trans (hd6' k a b))
  have hat : ∀ x, kmix ρ (xu gF (140, 0) x) (101, 0) = _ := fun x => (kmix_F _ _ _ rfl).trans ((xu_ne (n_fst rfl)).trans hat')
  have hb0 := hok.1
  have hb1 := hok.2.1
  have hw3 := hw.2.1
  have hn62 : ∀ q, q < aI α 1 → q < kA σ 62 0 := fun q hq => by rw [hl.2.1]; exact hq
  have hn61 : ∀ c, c < aI α 0 → c < kA σ 61 0 := fun c hc => by rw [hl.1]; exact hc
  have hwc3 := wCn_n3 (F := aFo α) (σ := σ)
  refine xMet.of h0 (by decide +kernel) rfl ?_
  intro zp ze zs zm za zb zf zc hC hr hnm
  refine x_sipush hC dX0_passes_0 (q := 3) rfl (v := (9999)) (by decide) ?_
  refine x_aloadr_n hC dX0_passes_3 (q := 4) rfl rfl ?_
  refine x_get hC xf_X0_195_16 dX0_passes_4 (q := 7) rfl (n := (120, 0)) ((kmix_F _ _ _ rfl).trans hd0') rfl ?_
  refine x_aloadr_n hC dX0_passes_7 (q := 8) rfl rfl ?_
  refine x_get hC xf_X0_196_0 dX0_passes_8 (q := 11) rfl (n := (101, 0)) ((kmix_F _ _ _ rfl).trans hat') rfl ?_
  refine x_iadd hC dX0_passes_11 (q := 12) rfl ?_
  refine x_callS hC xv_X0_48 dX0_passes_12 (q := 15) rfl rfl (m_J0_min h0 _ 9999 (I 0 + nI (aI α 7))) rfl (Nat.le_of_ble_eq_true rfl) ⟨(by (try dsimp only); omega), (by (try dsimp only); omega)⟩ ⟨(by (try dsimp only); omega), (by (try dsimp only); omega)⟩ (fun v g1 hp => ?_)
  rw [show (if I 0 + nI (aI α 7) < 9999 then I 0 + nI (aI α 7) else 9999) = wL (aFo α) σ 0 from by rw [hI.1, ← iI_nat, ← hLW.1]; rfl] at hp
  obtain ⟨rfl, hg1⟩ := hp
  replace hg1 := hg1.symm
  subst hg1
  refine x_istore hC dX0_passes_15 (q := 17) rfl rfl ?_
  refine x_aloadr_n hC dX0_passes_17 (q := 18) rfl rfl ?_
  refine x_get hC xf_X0_199_16 dX0_passes_18 (q := 21) rfl (n := (120, 0)) ((kmix_F _ _ _ rfl).trans hd0') rfl ?_
  rw [hI.2.1]
  refine x_istore hC dX0_passes_21 (q := 23) rfl rfl ?_
  refine x_iconst hC dX0_passes_23 (q := 24) rfl (v := (3)) (by decide) ?_
  refine x_newa hC (at0 := .boolean) (N := 3) (x := (3, .inl (fun _ => 0))) (140, 0) q1657 dX0_passes_24 (q := 26) rfl rfl ((kmix_F _ _ _ rfl).trans h140) rfl (by decide) (fun _ => rfl) (Nat.le_of_ble_eq_true rfl) (Nat.le_of_ble_eq_true rfl) (fun a_24 => ?_)
  refine x_geq (g' := (kmix ρ (xu gF (140, 0) (some (a_24, xAi .boolean 3 (fun _ => 0)))))) (kmix_xuF _ _ _ _ rfl) ?_
  refine x_astorer hC dX0_passes_26 (q := 28) rfl rfl ?_
  refine x_iconst hC dX0_passes_28 (q := 29) rfl (v := (0)) (by decide) ?_
  refine x_istore hC dX0_passes_29 (q := 31) rfl rfl ?_
  refine x_loop (S := (fun x : Nat × (Nat → Int32) × Option Value => ((1 : Nat), (3 : Nat), (kmix ρ (xu gF (140, 0) (some (a_24, xAi .boolean 3 x.2.1)))), ([some (.ref (kA ρ 0 0)), some (.ref aa), some (.ref ad), some (.int (nI st)), some (.int (wL (aFo α) σ x.1)), some (.int (nI (kA σ 63 0 + wCn (aFo α) σ x.1))), some (.ref a_24), some (.int (nI x.1)), x.2.2] : xL), ([] : List Value)))) (Inv := fun x => x.1 ≤ aI α 1 ∧ ∀ r, r < x.1 → (wF (aFo α) σ r → x.2.1 r = 1) ∧ (¬ wF (aFo α) σ r → x.2.1 r = 0)) (μ := fun x => aI α 1 - x.1) ?_ (0, fun _ => 0, none) ⟨Nat.zero_le _, fun r hr => absurd hr (Nat.not_lt_zero r)⟩
  intro x hi ih
  obtain ⟨q, arr, u8⟩ := x
  obtain ⟨hi, harr⟩ := hi
  dsimp only at hi harr ih ⊢
  have hwc := hwc3 q
  refine x_iload hC dX0_passes_31 (q := 33) rfl rfl ?_
  refine x_aloadr_n hC dX0_passes_33 (q := 34) rfl rfl ?_
  refine x_get hC xf_X0_54_0 dX0_passes_34 (q := 37) rfl (n := (101, 0)) (hat _) rfl ?_
  refine x_icmp_ge hC dX0_passes_37 (q := 40) rfl (tgt := 272) rfl (fun h37 => ?_) (fun h37 => ?_)
  · have hq1 : q = aI α 1 := by
      have := (nI_leI (a := aI α 1) (b := q) (by omega) (by omega)).mp h37
      omega
    subst hq1
    refine x_iconst hC dX0_passes_272 (q := 273) rfl (v := (0)) (by decide) ?_
    refine x_istore hC dX0_passes_273 (q := 275) rfl rfl ?_
    refine x_loop (S := (fun x : Nat => ((1 : Nat), (3 : Nat), (kmix ρ (xu gF (140, 0) (some (a_24, xAi .boolean 3 arr)))), ([some (.ref (kA ρ 0 0)), some (.ref aa), some (.ref ad), some (.int (nI st)), some (.int (wL (aFo α) σ (aI α 1))), some (.int (nI (kA σ 63 0 + wCn (aFo α) σ (aI α 1)))), some (.ref a_24), some (.int (nI x)), u8] : xL), ([] : List Value)))) (Inv := fun x => x ≤ aI α 0) (μ := fun x => aI α 0 - x) ?_ 0 (Nat.zero_le _)
    intro c hj ih2
    dsimp only at hj ih2 ⊢
    refine x_iload hC dX0_passes_275 (q := 277) rfl rfl ?_
    refine x_aloadr_n hC dX0_passes_277 (q := 278) rfl rfl ?_
    refine x_get hC xf_X0_60_0 dX0_passes_278 (q := 281) rfl (n := (101, 0)) (hat _) rfl ?_
    refine x_icmp_ge hC dX0_passes_281 (q := 284) rfl (tgt := 346) rfl (fun h281 => ?_) (fun h281 => ?_)
    · have hc1 : c = aI α 0 := by
        have := (nI_leI (a := aI α 0) (b := c) (by omega) (by omega)).mp h281
        omega
      subst hc1
      refine x_aloadr_n hC dX0_passes_346 (q := 347) rfl rfl ?_
      refine x_bipush hC dX0_passes_347 (q := 349) rfl (v := (8)) (by decide) ?_
      refine x_callV hC xv_X0_73 dX0_passes_349 (q := 352) rfl rfl (m_X2_has_8 h0 ρ _) (nn := (0, 0)) rfl rfl rfl (Nat.le_of_ble_eq_true rfl) ⟨(by (try dsimp only); omega), (by (try dsimp only); omega)⟩ ⟨(by (try dsimp only); omega), (by (try dsimp only); omega)⟩ (fun v g1 hp => ?_)
      rw [h63] at hp
      obtain ⟨rfl, hg1⟩ := hp
      replace hg1 := hg1.symm
      subst hg1
      refine x_iload hC dX0_passes_352 (q := 354) rfl rfl ?_
      refine x_icmp_ne hC dX0_passes_354 (q := 357) rfl (tgt := 402) rfl (fun h354 => ?_) (fun h354 => ?_)
      · exact absurd rfl h354
      refine x_aloadr_n hC dX0_passes_357 (q := 358) rfl rfl ?_
      refine x_aloadr_n hC dX0_passes_358 (q := 359) rfl rfl ?_
      refine x_callV hC xv_X0_221 dX0_passes_359 (q := 362) rfl rfl (m_X19_areElder h0 ρ _ (hDx _) hwr (R := kA σ 63 0) (by rw [h63]; omega) (by omega) hI.2.1 (fun k hk j hj => by rw [hold k hk]; exact hAI.1 k hk j hj)) (nn := (120, 0)) (hd0 _) rfl rfl (Nat.le_of_ble_eq_true rfl) ⟨(by (try dsimp only); omega), (by (try dsimp only); omega)⟩ ⟨(by (try dsimp only); omega), (by (try dsimp only); omega)⟩ (fun v g1 hp => ?_)
      obtain ⟨rfl, hg1⟩ := hp
      replace hg1 := hg1.symm
      subst hg1
      refine x_if_eq hC dX0_passes_362 (q := 365) rfl (tgt := 402) rfl (fun h362 => ?_) (fun h362 => ?_)
      · exact absurd h362 (by decide)
      refine x_aloadr_n hC dX0_passes_365 (q := 366) rfl rfl ?_
      refine x_iconst hC dX0_passes_366 (q := 367) rfl (v := (3)) (by decide) ?_
      refine x_callV hC xv_X0_73 dX0_passes_367 (q := 370) rfl rfl (m_X2_has_3 h0 ρ _) (nn := (0, 0)) rfl rfl rfl (Nat.le_of_ble_eq_true rfl) ⟨(by (try dsimp only); omega), (by (try dsimp only); omega)⟩ ⟨(by (try dsimp only); omega), (by (try dsimp only); omega)⟩ (fun v g1 hp => ?_)
      rw [hW.1] at hp
      obtain ⟨rfl, hg1⟩ := hp
      replace hg1 := hg1.symm
      subst hg1
      refine x_iload hC dX0_passes_370 (q := 372) rfl rfl ?_
      refine x_icmp_ne hC dX0_passes_372 (q := 375) rfl (tgt := 402) rfl (fun h372 => ?_) (fun h372 => ?_)
      · exact absurd rfl h372
      refine x_aloadr_n hC dX0_passes_375 (q := 376) rfl rfl ?_
      refine x_get hC xf_X0_225_16 dX0_passes_376 (q := 379) rfl (n := (120, 0)) (hd0 _) rfl ?_
      rw [show I 4 = wL (aFo α) σ (aI α 1) from by rw [hI.2.2.2.2, (kGs_E (F := aFo α) (kEy_is σ rfl 0 1) 1).1.1 7 0 rfl, ← hl.2.1]; exact (wkN (F := aFo α) (gu := 0) hpP hw.1 hw3 (kA σ 62 0) (Nat.le_refl _)).1]
      refine x_iload hC dX0_passes_379 (q := 381) rfl rfl ?_
      refine x_icmp_ne hC dX0_passes_381 (q := 384) rfl (tgt := 402) rfl (fun h381 => ?_) (fun h381 => ?_)
      · exact absurd rfl h381
      refine x_aloadr_n hC dX0_passes_384 (q := 385) rfl rfl ?_
      refine x_iconst hC dX0_passes_385 (q := 386) rfl (v := (2)) (by decide) ?_
      refine x_callV hC xv_X0_73 dX0_passes_386 (q := 389) rfl rfl (m_X2_has_2 h0 ρ _) (nn := (0, 0)) rfl rfl rfl (Nat.le_of_ble_eq_true rfl) ⟨(by (try dsimp only); omega), (by (try dsimp only); omega)⟩ ⟨(by (try dsimp only); omega), (by (try dsimp only); omega)⟩ (fun v g1 hp => ?_)
      rw [hP3] at hp
      obtain ⟨rfl, hg1⟩ := hp
      replace hg1 := hg1.symm
      subst hg1
      refine x_aloadr_n hC dX0_passes_389 (q := 390) rfl rfl ?_
      refine x_get hC xf_X0_207_16 dX0_passes_390 (q := 393) rfl (n := (120, 0)) (hd0 _) rfl ?_
      refine x_iconst hC dX0_passes_393 (q := 394) rfl (v := (1)) (by decide) ?_
      refine x_iadd hC dX0_passes_394 (q := 395) rfl ?_
      refine x_icmp_ne hC dX0_passes_395 (q := 398) rfl (tgt := 402) rfl (fun h395 => ?_) (fun h395 => ?_)
      · exact absurd (by rw [hI.2.2.1, show (1 : Int32) = iI 1 from rfl, iI_add]) h395
      refine x_iconst hC dX0_passes_398 (q := 399) rfl (v := (1)) (by decide) ?_
      refine x_goto hC dX0_passes_399 (tgt := 403) rfl ?_
      refine x_sub (g' := kmix ρ gF) (kmix_sub1 h140 rfl) ?_
      exact x_zret hC hr rfl dX0_passes_403 (by (try dsimp only); omega) (by (try dsimp only); omega) ⟨rfl, rfl⟩
    have hc1 : c < aI α 0 := Nat.not_le.mp (fun w => h281 (nI_le w (by omega)))
    have hc2 := hn61 c hc1
    have hcr : c < kA ρ 61 0 := by rw [h61]; exact hc2
    have hDC := (hAI.2.2 c hc1).1.1
    refine x_aloadr_n hC dX0_passes_284 (q := 285) rfl rfl ?_
    refine x_get hC xf_X0_120_16 dX0_passes_285 (q := 288) rfl (n := (120, 0)) (hd0 _) rfl ?_
    refine x_iload hC dX0_passes_288 (q := 290) rfl rfl ?_
    refine x_iald hC dX0_passes_290 (q := 291) rfl (n := (126, 0)) (hd6 _ 10 (by decide) (by decide)) (j := c) rfl (by omega) (by decide) ?_
    rw [hDC.1]
    refine x_if_lt hC dX0_passes_291 (q := 294) rfl (tgt := 307) rfl (fun h291 => ?_) (fun h291 => ?_)
    · have hnA : ¬ wA (aFo α) σ (aI α 1) c := fun ⟨q, p, a, _, e⟩ => by
        have := ((hpP.1 q p c).mp e).2.1
        unfold kKil at h291; rw [this] at h291
        exact absurd (nI_le (a := 0) (b := q) (Nat.zero_le _) (by omega)) (Int32.not_le.mpr h291)
      refine x_aloadr_n hC dX0_passes_307 (q := 308) rfl rfl ?_
      refine x_aloadr_n hC dX0_passes_308 (q := 309) rfl rfl ?_
      refine x_iload hC dX0_passes_309 (q := 311) rfl rfl ?_
      refine x_callV hC xv_X0_214 dX0_passes_311 (q := 314) rfl rfl (m_X19_isSameChild h0 ρ _ (hDx _) hwr hcr (by omega) (DC_week hpP hw.1 hM hRw h61 hW hc2 hnA hDC)) (nn := (120, 0)) (hd0 _) rfl rfl (Nat.le_of_ble_eq_true rfl) ⟨(by (try dsimp only); omega), (by (try dsimp only); omega)⟩ ⟨(by (try dsimp only); omega), (by (try dsimp only); omega)⟩ (fun v g1 hp => ?_)
      obtain ⟨rfl, hg1⟩ := hp
      replace hg1 := hg1.symm
      subst hg1
      refine x_if_eq hC dX0_passes_314 (q := 317) rfl (tgt := 338) rfl (fun h314 => ?_) (fun h314 => ?_)
      · exact absurd h314 (by decide)
      refine x_iload_n hC dX0_passes_317 (q := 318) rfl rfl ?_
      refine x_if_ne hC dX0_passes_318 (q := 321) rfl (tgt := 340) rfl (fun h318 => ?_) (fun h318 => ?_)
      · have hx318 := h318
        refine x_iinc hC dX0_passes_340 (q := 343) rfl rfl (v := nI (c + 1)) (nI_1 c) ?_
        refine x_goto hC dX0_passes_343 (tgt := 275) rfl ?_
        exact ih2 (c + 1) (by (try dsimp only); omega) (by (try dsimp only); omega)
      have hst0 : st = 0 := nI_eq0 (by omega) h318
      refine x_aloadr_n hC dX0_passes_321 (q := 322) rfl rfl ?_
      refine x_get hC xf_X0_218_16 dX0_passes_322 (q := 325) rfl (n := (120, 0)) (hd0 _) rfl ?_
      refine x_iload hC dX0_passes_325 (q := 327) rfl rfl ?_
      refine x_iald hC dX0_passes_327 (q := 328) rfl (n := (130, 0)) (hd6 _ 14 (by decide) (by decide)) (j := c) rfl (by omega) (by decide) ?_
      refine x_aloadr_n hC dX0_passes_328 (q := 329) rfl rfl ?_
      refine x_iload hC dX0_passes_329 (q := 331) rfl rfl ?_
      refine x_iconst hC dX0_passes_331 (q := 332) rfl (v := (5)) (by decide) ?_
      refine x_callV hC xv_X0_63 dX0_passes_332 (q := 335) rfl rfl (m_X2_child_5 h0 ρ _ hwr c hcr) (nn := (0, 0)) rfl rfl rfl (Nat.le_of_ble_eq_true rfl) ⟨(by (try dsimp only); omega), (by (try dsimp only); omega)⟩ ⟨(by (try dsimp only); omega), (by (try dsimp only); omega)⟩ (fun v g1 hp => ?_)
      rw [hP34 c, hst0] at hp
      obtain ⟨rfl, hg1⟩ := hp
      replace hg1 := hg1.symm
      subst hg1
      rw [(hAI.2.2 c hc1).1.2, (kGs_E (F := aFo α) (kEy_is σ rfl 0 1) 1).1.1 34 c rfl]
      refine x_icmp_eq hC dX0_passes_335 (q := 338) rfl (tgt := 340) rfl (fun h335 => ?_) (fun h335 => ?_)
      · have hx335 := h335
        refine x_iinc hC dX0_passes_340 (q := 343) rfl rfl (v := nI (c + 1)) (nI_1 c) ?_
        refine x_goto hC dX0_passes_343 (tgt := 275) rfl ?_
        exact ih2 (c + 1) (by (try dsimp only); omega) (by (try dsimp only); omega)
      · exact absurd rfl h335
    obtain ⟨kq, hkq⟩ : ∃ q, kO σ 0 c 0 = some q := by
      cases e : kO σ 0 c 0 with
      | none => unfold kKil at h291; rw [e] at h291; exact absurd (show (-1 : Int32) < 0 by decide) h291
      | some q => exact ⟨q, rfl⟩
    have hkq1 : kq < aI α 1 := by rw [← hl.2.1]; exact (hpP.2.1 c kq hc2 hkq).1
    have hkk : kKil σ c = nI kq := by unfold kKil; rw [hkq]
    refine x_aloadr hC dX0_passes_294 (q := 296) rfl rfl ?_
    refine x_aloadr_n hC dX0_passes_296 (q := 297) rfl rfl ?_
    refine x_get hC xf_X0_120_16 dX0_passes_297 (q := 300) rfl (n := (120, 0)) (hd0 _) rfl ?_
    refine x_iload hC dX0_passes_300 (q := 302) rfl rfl ?_
    refine x_iald hC dX0_passes_302 (q := 303) rfl (n := (126, 0)) (hd6 _ 10 (by decide) (by decide)) (j := c) rfl (by omega) (by decide) ?_
    rw [hDC.1, hkk]
    refine x_zald hC dX0_passes_303 (q := 304) rfl (n := (140, 0)) ((kmix_F _ _ _ rfl).trans (xu_eq _ _ _)) (j := kq) rfl (by omega) (by decide) ?_
    refine x_if_ne hC dX0_passes_304 (q := 307) rfl (tgt := 317) rfl (fun h304 => ?_) (fun h304 => ?_)
    · have hx304 := h304
      refine x_iload_n hC dX0_passes_317 (q := 318) rfl rfl ?_
      refine x_if_ne hC dX0_passes_318 (q := 321) rfl (tgt := 340) rfl (fun h318 => ?_) (fun h318 => ?_)
      · have hx318 := h318
        refine x_iinc hC dX0_passes_340 (q := 343) rfl rfl (v := nI (c + 1)) (nI_1 c) ?_
        refine x_goto hC dX0_passes_343 (tgt := 275) rfl ?_
        exact ih2 (c + 1) (by (try dsimp only); omega) (by (try dsimp only); omega)
      have hst0 : st = 0 := nI_eq0 (by omega) h318
      refine x_aloadr_n hC dX0_passes_321 (q := 322) rfl rfl ?_
      refine x_get hC xf_X0_218_16 dX0_passes_322 (q := 325) rfl (n := (120, 0)) (hd0 _) rfl ?_
      refine x_iload hC dX0_passes_325 (q := 327) rfl rfl ?_
      refine x_iald hC dX0_passes_327 (q := 328) rfl (n := (130, 0)) (hd6 _ 14 (by decide) (by decide)) (j := c) rfl (by omega) (by decide) ?_
      refine x_aloadr_n hC dX0_passes_328 (q := 329) rfl rfl ?_
      refine x_iload hC dX0_passes_329 (q := 331) rfl rfl ?_
      refine x_iconst hC dX0_passes_331 (q := 332) rfl (v := (5)) (by decide) ?_
      refine x_callV hC xv_X0_63 dX0_passes_332 (q := 335) rfl rfl (m_X2_child_5 h0 ρ _ hwr c hcr) (nn := (0, 0)) rfl rfl rfl (Nat.le_of_ble_eq_true rfl) ⟨(by (try dsimp only); omega), (by (try dsimp only); omega)⟩ ⟨(by (try dsimp only); omega), (by (try dsimp only); omega)⟩ (fun v g1 hp => ?_)
      rw [hP34 c, hst0] at hp
      obtain ⟨rfl, hg1⟩ := hp
      replace hg1 := hg1.symm
      subst hg1
      rw [(hAI.2.2 c hc1).1.2, (kGs_E (F := aFo α) (kEy_is σ rfl 0 1) 1).1.1 34 c rfl]
      refine x_icmp_eq hC dX0_passes_335 (q := 338) rfl (tgt := 340) rfl (fun h335 => ?_) (fun h335 => ?_)
      · have hx335 := h335
        refine x_iinc hC dX0_passes_340 (q := 343) rfl rfl (v := nI (c + 1)) (nI_1 c) ?_
        refine x_goto hC dX0_passes_343 (tgt := 275) rfl ?_
        exact ih2 (c + 1) (by (try dsimp only); omega) (by (try dsimp only); omega)
      · exact absurd rfl h335
    have hnA : ¬ wA (aFo α) σ (aI α 1) c := fun ⟨q, p, a, b, e⟩ => by
      have e1 := ((hpP.1 q p c).mp e).2.1
      rw [hkq] at e1; cases e1
      rw [(harr kq hkq1).1 b] at h304
      exact absurd h304 (by decide)
    refine x_aloadr_n hC dX0_passes_307 (q := 308) rfl rfl ?_
    refine x_aloadr_n hC dX0_passes_308 (q := 309) rfl rfl ?_
    refine x_iload hC dX0_passes_309 (q := 311) rfl rfl ?_
    refine x_callV hC xv_X0_214 dX0_passes_311 (q := 314) rfl rfl (m_X19_isSameChild h0 ρ _ (hDx _) hwr hcr (by omega) (DC_week hpP hw.1 hM hRw h61 hW hc2 hnA hDC)) (nn := (120, 0)) (hd0 _) rfl rfl (Nat.le_of_ble_eq_true rfl) ⟨(by (try dsimp only); omega), (by (try dsimp only); omega)⟩ ⟨(by (try dsimp only); omega), (by (try dsimp only); omega)⟩ (fun v g1 hp => ?_)
    obtain ⟨rfl, hg1⟩ := hp
    replace hg1 := hg1.symm
    subst hg1
    refine x_if_eq hC dX0_passes_314 (q := 317) rfl (tgt := 338) rfl (fun h314 => ?_) (fun h314 => ?_)
    · exact absurd h314 (by decide)
    refine x_iload_n hC dX0_passes_317 (q := 318) rfl rfl ?_
    refine x_if_ne hC dX0_passes_318 (q := 321) rfl (tgt := 340) rfl (fun h318 => ?_) (fun h318 => ?_)
    · have hx318 := h318
      refine x_iinc hC dX0_passes_340 (q := 343) rfl rfl (v := nI (c + 1)) (nI_1 c) ?_
      refine x_goto hC dX0_passes_343 (tgt := 275) rfl ?_
      exact ih2 (c + 1) (by (try dsimp only); omega) (by (try dsimp only); omega)
    have hst0 : st = 0 := nI_eq0 (by omega) h318
    refine x_aloadr_n hC dX0_passes_321 (q := 322) rfl rfl ?_
    refine x_get hC xf_X0_218_16 dX0_passes_322 (q := 325) rfl (n := (120, 0)) (hd0 _) rfl ?_
    refine x_iload hC dX0_passes_325 (q := 327) rfl rfl ?_
    refine x_iald hC dX0_passes_327 (q := 328) rfl (n := (130, 0)) (hd6 _ 14 (by decide) (by decide)) (j := c) rfl (by omega) (by decide) ?_
    refine x_aloadr_n hC dX0_passes_328 (q := 329) rfl rfl ?_
    refine x_iload hC dX0_passes_329 (q := 331) rfl rfl ?_
    refine x_iconst hC dX0_passes_331 (q := 332) rfl (v := (5)) (by decide) ?_
    refine x_callV hC xv_X0_63 dX0_passes_332 (q := 335) rfl rfl (m_X2_child_5 h0 ρ _ hwr c hcr) (nn := (0, 0)) rfl rfl rfl (Nat.le_of_ble_eq_true rfl) ⟨(by (try dsimp only); omega), (by (try dsimp only); omega)⟩ ⟨(by (try dsimp only); omega), (by (try dsimp only); omega)⟩ (fun v g1 hp => ?_)
    rw [hP34 c, hst0] at hp
    obtain ⟨rfl, hg1⟩ := hp
    replace hg1 := hg1.symm
    subst hg1
    rw [(hAI.2.2 c hc1).1.2, (kGs_E (F := aFo α) (kEy_is σ rfl 0 1) 1).1.1 34 c rfl]
    refine x_icmp_eq hC dX0_passes_335 (q := 338) rfl (tgt := 340) rfl (fun h335 => ?_) (fun h335 => ?_)
    · have hx335 := h335
      refine x_iinc hC dX0_passes_340 (q := 343) rfl rfl (v := nI (c + 1)) (nI_1 c) ?_
      refine x_goto hC dX0_passes_343 (tgt := 275) rfl ?_
      exact ih2 (c + 1) (by (try dsimp only); omega) (by (try dsimp only); omega)
    · exact absurd rfl h335
  have hq1 : q < aI α 1 := Nat.not_le.mp (fun w => h37 (nI_le w (by omega)))
  have hq2 := hn62 q hq1
  have hqr : q < kA ρ 62 0 := by rw [h62]; exact hq2
  obtain ⟨v5, v6, v7, v8, v9⟩ := hAI.2.1 q hq1
  have h41 := hNb.2 q hq2
  have hcom : V 9 q = 0 ↔ wF (aFo α) σ q := (kFnd_0 v9).trans (wF_0 hpP hw.1 hw3 hq2)
  refine x_aloadr hC dX0_passes_40 (q := 42) rfl rfl ?_
  refine x_iload hC dX0_passes_42 (q := 44) rfl rfl ?_
  refine x_aloadr_n hC dX0_passes_44 (q := 45) rfl rfl ?_
  refine x_get hC xf_X0_149_16 dX0_passes_45 (q := 48) rfl (n := (120, 0)) (hd0 _) rfl ?_
  refine x_iload hC dX0_passes_48 (q := 50) rfl rfl ?_
  refine x_iald hC dX0_passes_50 (q := 51) rfl (n := (123, 0)) (hd3 _ 7 (by decide) (by decide)) (j := q) rfl (by omega) (by decide) ?_
  refine x_meet (pc2 := 81) (S := (fun x : Int32 => ((1 : Nat), (3 : Nat), (kmix ρ (xu gF (140, 0) (some (a_24, xAi .boolean 3 arr)))), ([some (.ref (kA ρ 0 0)), some (.ref aa), some (.ref ad), some (.int (nI st)), some (.int (wL (aFo α) σ q)), some (.int (nI (kA σ 63 0 + wCn (aFo α) σ q))), some (.ref a_24), some (.int (nI q)), u8] : xL), ([.int x, .int (nI q), .ref a_24] : List Value)))) (Inv := fun x => (wF (aFo α) σ q ∧ x = 1) ∨ (¬ wF (aFo α) σ q ∧ x = 0)) (fun ih => ?_) (fun xx hi => ?_)
  · rw [v7]
    refine x_if_lt hC dX0_passes_51 (q := 54) rfl (tgt := 80) rfl (fun h51 => ?_) (fun h51 => ?_)
    · have hfn : ¬ wF (aFo α) σ q := fun w => w (Or.inl (by
        have := (iI_lt (b := 0) (show iB (kI σ 41 q) from ⟨by omega, by omega⟩) ⟨by decide, by decide⟩).mp h51
        rw [show kI σ 41 q = -1 by omega]; rfl))
      refine x_iconst hC dX0_passes_80 (q := 81) rfl (v := (0)) (by decide) ?_
      first
        | exact ih 1 (Or.inl ⟨hfy, rfl⟩)
        | exact ih 0 (Or.inr ⟨hfn, rfl⟩)
    have h41n : ¬ iI (kI σ 41 q) = -1 := fun w => h51 (by rw [w]; decide)
    refine x_aloadr_n hC dX0_passes_54 (q := 55) rfl rfl ?_
    refine x_get hC xf_X0_115_16 dX0_passes_55 (q := 58) rfl (n := (120, 0)) (hd0 _) rfl ?_
    refine x_iload hC dX0_passes_58 (q := 60) rfl rfl ?_
    refine x_iald hC dX0_passes_60 (q := 61) rfl (n := (122, 0)) (hd3 _ 6 (by decide) (by decide)) (j := q) rfl (by omega) (by decide) ?_
    rw [v6]
    refine x_if_le hC dX0_passes_61 (q := 64) rfl (tgt := 80) rfl (fun h61_ => ?_) (fun h61_ => ?_)
    · have hfn : ¬ wF (aFo α) σ q := fun w => w (Or.inr (Or.inl (by
        have h6 := kFull_6 hw hq2
        have := (nI_leI (a := kFull σ q) (b := 0) (by omega) (by decide)).mp h61_
        omega)))
      refine x_iconst hC dX0_passes_80 (q := 81) rfl (v := (0)) (by decide) ?_
      first
        | exact ih 1 (Or.inl ⟨hfy, rfl⟩)
        | exact ih 0 (Or.inr ⟨hfn, rfl⟩)
    have hfl : ¬ kFull σ q = 0 := fun w => h61_ (by rw [w]; exact nI_le (a := 0) (b := 0) (Nat.le_refl _) (by decide))
    refine x_aloadr_n hC dX0_passes_64 (q := 65) rfl rfl ?_
    refine x_get hC xf_X0_202_16 dX0_passes_65 (q := 68) rfl (n := (120, 0)) (hd0 _) rfl ?_
    refine x_iload hC dX0_passes_68 (q := 70) rfl rfl ?_
    refine x_iald hC dX0_passes_70 (q := 71) rfl (n := (124, 0)) (hd3 _ 8 (by decide) (by decide)) (j := q) rfl (by omega) (by decide) ?_
    rw [v8, if_neg h41n]
    refine x_iload hC dX0_passes_71 (q := 73) rfl rfl ?_
    refine x_icmp_gt hC dX0_passes_73 (q := 76) rfl (tgt := 80) rfl (fun h73 => ?_) (fun h73 => ?_)
    · have hfn : ¬ wF (aFo α) σ q := fun w => w (Or.inr (Or.inr h73))
      refine x_iconst hC dX0_passes_80 (q := 81) rfl (v := (0)) (by decide) ?_
      first
        | exact ih 1 (Or.inl ⟨hfy, rfl⟩)
        | exact ih 0 (Or.inr ⟨hfn, rfl⟩)
    have hfy : wF (aFo α) σ q := fun w => w.elim h41n (fun w => w.elim hfl h73)
    refine x_iconst hC dX0_passes_76 (q := 77) rfl (v := (1)) (by decide) ?_
    refine x_goto hC dX0_passes_77 (tgt := 81) rfl ?_
    first
      | exact ih 1 (Or.inl ⟨hfy, rfl⟩)
      | exact ih 0 (Or.inr ⟨hfn, rfl⟩)
  obtain ⟨b, hbx⟩ : ∃ z, z = xx := ⟨_, rfl⟩
  subst hbx
  have hbi := hi
  clear hi
  dsimp only at hbi ⊢
  have hz01 : vp_nar .boolean b = b := vp01 (by rcases hbi with w | w
                                                · exact Or.inr w.2
                                                · exact Or.inl w.2)
  have harr2 : ∀ r, r < q + 1 → (wF (aFo α) σ r → upd arr q b r = 1) ∧ (¬ wF (aFo α) σ r → upd arr q b r = 0) := fun r hr => by
    unfold upd
    by_cases e : r = q
    · subst e; rw [if_pos rfl]; exact ⟨fun w => (hbi.resolve_right (fun v => v.1 w)).2, fun w => (hbi.resolve_left (fun v => w v.1)).2⟩
    · rw [if_neg e]; exact harr r (by omega)
  refine x_zast hC dX0_passes_81 (q := 82) rfl (n := (140, 0)) rfl ((kmix_F _ _ _ rfl).trans (xu_eq _ _ _)) (j := q) rfl (by omega) (by decide) ?_
  rw [hz01]
  refine x_geq (g' := (kmix ρ (xu gF (140, 0) (some (a_24, xAi .boolean 3 (upd arr q b)))))) (by rw [kmix_xuF _ _ _ _ rfl, xu_xu]) ?_
  refine x_aloadr_n hC dX0_passes_82 (q := 83) rfl rfl ?_
  refine x_get hC xf_X0_160_16 dX0_passes_83 (q := 86) rfl (n := (120, 0)) (hd0 _) rfl ?_
  refine x_iload hC dX0_passes_86 (q := 88) rfl rfl ?_
  refine x_iald hC dX0_passes_88 (q := 89) rfl (n := (125, 0)) (hd3 _ 9 (by decide) (by decide)) (j := q) rfl (by omega) (by decide) ?_
  refine x_meet (pc2 := 97) (S := (fun x : Int32 => ((1 : Nat), (3 : Nat), (kmix ρ (xu gF (140, 0) (some (a_24, xAi .boolean 3 (upd arr q b))))), ([some (.ref (kA ρ 0 0)), some (.ref aa), some (.ref ad), some (.int (nI st)), some (.int (wL (aFo α) σ q)), some (.int (nI (kA σ 63 0 + wCn (aFo α) σ q))), some (.ref a_24), some (.int (nI q)), u8] : xL), ([.int x] : List Value)))) (Inv := fun x => x = b) (fun ih => ?_) (fun xx hi => ?_)
  · refine x_if_ne hC dX0_passes_89 (q := 92) rfl (tgt := 96) rfl (fun h89 => ?_) (fun h89 => ?_)
    · have hxb : 0 = b := (hbi.resolve_left (fun v => h89 (hcom.mpr v.1))).2.symm
      refine x_iconst hC dX0_passes_96 (q := 97) rfl (v := (0)) (by decide) ?_
      exact ih _ hxb
    have hxb : 1 = b := (hbi.resolve_right (fun v => v.1 (hcom.mp h89))).2.symm
    refine x_iconst hC dX0_passes_92 (q := 93) rfl (v := (1)) (by decide) ?_
    refine x_goto hC dX0_passes_93 (tgt := 97) rfl ?_
    exact ih _ hxb
  have hi2 := hi.symm
  subst hi2
  dsimp only
  refine x_aloadr hC dX0_passes_97 (q := 99) rfl rfl ?_
  refine x_iload hC dX0_passes_99 (q := 101) rfl rfl ?_
  refine x_zald hC dX0_passes_101 (q := 102) rfl (n := (140, 0)) ((kmix_F _ _ _ rfl).trans (xu_eq _ _ _)) (j := q) rfl (by omega) (by decide) ?_
  rw [show upd arr q b q = b from if_pos rfl]
  refine x_icmp_eq hC dX0_passes_102 (q := 105) rfl (tgt := 107) rfl (fun h102 => ?_) (fun h102 => ?_)
  · have hx102 := h102
    refine x_aloadr hC dX0_passes_107 (q := 109) rfl rfl ?_
    refine x_iload hC dX0_passes_109 (q := 111) rfl rfl ?_
    refine x_zald hC dX0_passes_111 (q := 112) rfl (n := (140, 0)) ((kmix_F _ _ _ rfl).trans (xu_eq _ _ _)) (j := q) rfl (by omega) (by decide) ?_
    rw [show upd arr q b q = b from if_pos rfl]
    refine x_if_ne hC dX0_passes_112 (q := 115) rfl (tgt := 151) rfl (fun h112 => ?_) (fun h112 => ?_)
    · have hfy : wF (aFo α) σ q := (hbi.resolve_right (fun v => h112 v.2)).1
      have hrq : kA σ 63 0 + wCn (aFo α) σ q < kA ρ 63 0 := by
        have := wCn_le (F := aFo α) (σ := σ) (q + 1) (aI α 1 - (q + 1))
        rw [show q + 1 + (aI α 1 - (q + 1)) = aI α 1 by omega, wCn_y hfy] at this
        rw [h63]; omega
      have h41n : ¬ iI (kI σ 41 q) = -1 := fun w => hfy (Or.inl w)
      have hrw := hrow q hq1 hfy
      have hfull0 : kFull ρ q = 0 := kCnt_0 (fun p => (hW.2.2.1 q p).1 ⟨hq1, hfy⟩) _
      have h41r : kI ρ 41 q = -1 := (hW.2.1 q).1 ⟨hq1, hfy⟩
      refine x_iload hC dX0_passes_151 (q := 153) rfl rfl ?_
      refine x_aloadr_n hC dX0_passes_153 (q := 154) rfl rfl ?_
      refine x_get hC xf_X0_202_16 dX0_passes_154 (q := 157) rfl (n := (120, 0)) (hd0 _) rfl ?_
      refine x_iload hC dX0_passes_157 (q := 159) rfl rfl ?_
      refine x_iald hC dX0_passes_159 (q := 160) rfl (n := (124, 0)) (hd3 _ 8 (by decide) (by decide)) (j := q) rfl (by omega) (by decide) ?_
      rw [v8, if_neg h41n]
      refine x_isub hC dX0_passes_160 (q := 161) rfl ?_
      rw [← wL_y hfy]
      refine x_istore hC dX0_passes_161 (q := 163) rfl rfl ?_
      refine x_bipush hC dX0_passes_163 (q := 165) rfl (v := (20)) (by decide) ?_
      refine x_aloadr_n hC dX0_passes_165 (q := 166) rfl rfl ?_
      refine x_get hC xf_X0_149_16 dX0_passes_166 (q := 169) rfl (n := (120, 0)) (hd0 _) rfl ?_
      refine x_iload hC dX0_passes_169 (q := 171) rfl rfl ?_
      refine x_iald hC dX0_passes_171 (q := 172) rfl (n := (123, 0)) (hd3 _ 7 (by decide) (by decide)) (j := q) rfl (by omega) (by decide) ?_
      rw [v7]
      refine x_iload_n hC dX0_passes_172 (q := 173) rfl rfl ?_
      refine x_iadd hC dX0_passes_173 (q := 174) rfl ?_
      refine x_callS hC xv_X0_48 dX0_passes_174 (q := 177) rfl rfl (m_J0_min h0 _ 20 (iI (kI σ 41 q) + nI st)) rfl (Nat.le_of_ble_eq_true rfl) ⟨(by (try dsimp only); omega), (by (try dsimp only); omega)⟩ ⟨(by (try dsimp only); omega), (by (try dsimp only); omega)⟩ (fun v g1 hp => ?_)
      replace hp : v = some (.int (kHt σ q (nI st))) ∧ _ := hp
      obtain ⟨rfl, hg1⟩ := hp
      replace hg1 := hg1.symm
      subst hg1
      refine x_istore hC dX0_passes_177 (q := 179) rfl rfl ?_
      refine x_aloadr_n hC dX0_passes_179 (q := 180) rfl rfl ?_
      refine x_iload hC dX0_passes_180 (q := 182) rfl rfl ?_
      refine x_iconst hC dX0_passes_182 (q := 183) rfl (v := (0)) (by decide) ?_
      refine x_callV hC xv_X0_204 dX0_passes_183 (q := 186) rfl rfl (m_X2_kept h0 ρ _ hwr (kA σ 63 0 + wCn (aFo α) σ q) 0 hrq (by decide)) (nn := (0, 0)) rfl rfl rfl (Nat.le_of_ble_eq_true rfl) ⟨(by (try dsimp only); omega), (by (try dsimp only); omega)⟩ ⟨(by (try dsimp only); omega), (by (try dsimp only); omega)⟩ (fun v g1 hp => ?_)
      rw [hrw, show iI (wRow (aFo α) σ (nI st) q 0) = I 2 from hI.2.2.1.symm] at hp
      obtain ⟨rfl, hg1⟩ := hp
      replace hg1 := hg1.symm
      subst hg1
      refine x_aloadr_n hC dX0_passes_186 (q := 187) rfl rfl ?_
      refine x_get hC xf_X0_207_16 dX0_passes_187 (q := 190) rfl (n := (120, 0)) (hd0 _) rfl ?_
      refine x_icmp_ne hC dX0_passes_190 (q := 193) rfl (tgt := 217) rfl (fun h190 => ?_) (fun h190 => ?_)
      · exact absurd rfl h190
      refine x_aloadr_n hC dX0_passes_193 (q := 194) rfl rfl ?_
      refine x_iload hC dX0_passes_194 (q := 196) rfl rfl ?_
      refine x_iconst hC dX0_passes_196 (q := 197) rfl (v := (1)) (by decide) ?_
      refine x_callV hC xv_X0_204 dX0_passes_197 (q := 200) rfl rfl (m_X2_kept h0 ρ _ hwr (kA σ 63 0 + wCn (aFo α) σ q) 1 hrq (by decide)) (nn := (0, 0)) rfl rfl rfl (Nat.le_of_ble_eq_true rfl) ⟨(by (try dsimp only); omega), (by (try dsimp only); omega)⟩ ⟨(by (try dsimp only); omega), (by (try dsimp only); omega)⟩ (fun v g1 hp => ?_)
      rw [hrw, show iI (wRow (aFo α) σ (nI st) q 1) = nI q from iI_nat q] at hp
      obtain ⟨rfl, hg1⟩ := hp
      replace hg1 := hg1.symm
      subst hg1
      refine x_iload hC dX0_passes_200 (q := 202) rfl rfl ?_
      refine x_icmp_ne hC dX0_passes_202 (q := 205) rfl (tgt := 217) rfl (fun h202 => ?_) (fun h202 => ?_)
      · exact absurd rfl h202
      refine x_aloadr_n hC dX0_passes_205 (q := 206) rfl rfl ?_
      refine x_iload hC dX0_passes_206 (q := 208) rfl rfl ?_
      refine x_iconst hC dX0_passes_208 (q := 209) rfl (v := (2)) (by decide) ?_
      refine x_callV hC xv_X0_204 dX0_passes_209 (q := 212) rfl rfl (m_X2_kept h0 ρ _ hwr (kA σ 63 0 + wCn (aFo α) σ q) 2 hrq (by decide)) (nn := (0, 0)) rfl rfl rfl (Nat.le_of_ble_eq_true rfl) ⟨(by (try dsimp only); omega), (by (try dsimp only); omega)⟩ ⟨(by (try dsimp only); omega), (by (try dsimp only); omega)⟩ (fun v g1 hp => ?_)
      rw [hrw, show iI (wRow (aFo α) σ (nI st) q 2) = kHt σ q (nI st) from toI _] at hp
      obtain ⟨rfl, hg1⟩ := hp
      replace hg1 := hg1.symm
      subst hg1
      refine x_iload hC dX0_passes_212 (q := 214) rfl rfl ?_
      refine x_icmp_eq hC dX0_passes_214 (q := 217) rfl (tgt := 219) rfl (fun h214 => ?_) (fun h214 => ?_)
      · have hx214 := h214
        refine x_aloadr_n hC dX0_passes_219 (q := 220) rfl rfl ?_
        refine x_aloadr_n hC dX0_passes_220 (q := 221) rfl rfl ?_
        refine x_aloadr_n hC dX0_passes_221 (q := 222) rfl rfl ?_
        refine x_iload hC dX0_passes_222 (q := 224) rfl rfl ?_
        refine x_iload_n hC dX0_passes_224 (q := 225) rfl rfl ?_
        refine x_iload hC dX0_passes_225 (q := 227) rfl rfl ?_
        refine x_aloadr_n hC dX0_passes_227 (q := 228) rfl rfl ?_
        refine x_iload hC dX0_passes_228 (q := 230) rfl rfl ?_
        refine x_iconst hC dX0_passes_230 (q := 231) rfl (v := (3)) (by decide) ?_
        refine x_callV hC xv_X0_204 dX0_passes_231 (q := 234) rfl rfl (m_X2_kept h0 ρ _ hwr (kA σ 63 0 + wCn (aFo α) σ q) 3 hrq (by decide)) (nn := (0, 0)) rfl rfl rfl (Nat.le_of_ble_eq_true rfl) ⟨(by (try dsimp only); omega), (by (try dsimp only); omega)⟩ ⟨(by (try dsimp only); omega), (by (try dsimp only); omega)⟩ (fun v g1 hp => ?_)
        rw [hrw, show iI (wRow (aFo α) σ (nI st) q 3) = nI (wK (aFo α) σ (nI st) q) from iI_nat _] at hp
        obtain ⟨rfl, hg1⟩ := hp
        replace hg1 := hg1.symm
        subst hg1
        refine x_callS hC xv_X0_210 dX0_passes_234 (q := 237) rfl rfl (m_X0_isOut h0 σ ρ _ hst (hDx _) (hAx _) hok hl hw hpP hNb hM hRw hwr h61 hAI hW hq1 hfy) rfl (Nat.le_of_ble_eq_true rfl) ⟨(by (try dsimp only); omega), (by (try dsimp only); omega)⟩ ⟨(by (try dsimp only); omega), (by (try dsimp only); omega)⟩ (fun v g1 hp => ?_)
        obtain ⟨rfl, hg1⟩ := hp
        replace hg1 := hg1.symm
        subst hg1
        refine x_if_eq hC dX0_passes_237 (q := 240) rfl (tgt := 261) rfl (fun h237 => ?_) (fun h237 => ?_)
        · exact absurd h237 (by decide)
        refine x_aloadr_n hC dX0_passes_240 (q := 241) rfl rfl ?_
        refine x_iload hC dX0_passes_241 (q := 243) rfl rfl ?_
        refine x_iconst hC dX0_passes_243 (q := 244) rfl (v := (1)) (by decide) ?_
        refine x_callV hC xv_X0_80 dX0_passes_244 (q := 247) rfl rfl (m_X2_kiln_1 h0 ρ _ hwr q hqr) (nn := (0, 0)) rfl rfl rfl (Nat.le_of_ble_eq_true rfl) ⟨(by (try dsimp only); omega), (by (try dsimp only); omega)⟩ ⟨(by (try dsimp only); omega), (by (try dsimp only); omega)⟩ (fun v g1 hp => ?_)
        rw [hfull0] at hp
        obtain ⟨rfl, hg1⟩ := hp
        replace hg1 := hg1.symm
        subst hg1
        refine x_if_ne hC dX0_passes_247 (q := 250) rfl (tgt := 261) rfl (fun h247 => ?_) (fun h247 => ?_)
        · exact absurd rfl h247
        refine x_aloadr_n hC dX0_passes_250 (q := 251) rfl rfl ?_
        refine x_iload hC dX0_passes_251 (q := 253) rfl rfl ?_
        refine x_iconst hC dX0_passes_253 (q := 254) rfl (v := (2)) (by decide) ?_
        refine x_callV hC xv_X0_80 dX0_passes_254 (q := 257) rfl rfl (m_X2_kiln_2 h0 ρ _ hwr q hqr) (nn := (0, 0)) rfl rfl rfl (Nat.le_of_ble_eq_true rfl) ⟨(by (try dsimp only); omega), (by (try dsimp only); omega)⟩ ⟨(by (try dsimp only); omega), (by (try dsimp only); omega)⟩ (fun v g1 hp => ?_)
        rw [h41r] at hp
        obtain ⟨rfl, hg1⟩ := hp
        replace hg1 := hg1.symm
        subst hg1
        refine x_iconst hC dX0_passes_257 (q := 258) rfl (v := (-1)) (by decide) ?_
        refine x_icmp_eq hC dX0_passes_258 (q := 261) rfl (tgt := 263) rfl (fun h258 => ?_) (fun h258 => ?_)
        · have hx258 := h258
          refine x_iinc hC dX0_passes_263 (q := 266) rfl rfl (v := nI (kA σ 63 0 + wCn (aFo α) σ (q + 1))) (by rw [wCn_y hfy]; exact nI_1 _) ?_
          refine x_iinc hC dX0_passes_266 (q := 269) rfl rfl (v := nI (q + 1)) (nI_1 q) ?_
          refine x_goto hC dX0_passes_269 (tgt := 31) rfl ?_
          first
            | (rw [← wL_n hnf, ← wCn_n hnf]; exact ih (q + 1, upd arr q b, u8) ⟨by (try dsimp only); omega, harr2⟩ (by (try dsimp only); omega))
            | exact ih (q + 1, upd arr q b, _) ⟨by (try dsimp only); omega, harr2⟩ (by (try dsimp only); omega)
        · exact absurd rfl h258
      · exact absurd rfl h214
    have hnf : ¬ wF (aFo α) σ q := (hbi.resolve_left (fun v => by rw [v.2] at h112; exact absurd h112 (by decide))).1
    have hfull1 : kFull ρ q = kFull σ q := by
      unfold kFull
      rw [h25, show kO ρ 1 q = kO σ 1 q from funext fun p => (hW.2.2.1 q p).2 (fun w => hnf w.2)]
    have h41r : kI ρ 41 q = kI σ 41 q := (hW.2.1 q).2 (fun w => hnf w.2)
    refine x_aloadr_n hC dX0_passes_115 (q := 116) rfl rfl ?_
    refine x_iload hC dX0_passes_116 (q := 118) rfl rfl ?_
    refine x_iconst hC dX0_passes_118 (q := 119) rfl (v := (1)) (by decide) ?_
    refine x_callV hC xv_X0_80 dX0_passes_119 (q := 122) rfl rfl (m_X2_kiln_1 h0 ρ _ hwr q hqr) (nn := (0, 0)) rfl rfl rfl (Nat.le_of_ble_eq_true rfl) ⟨(by (try dsimp only); omega), (by (try dsimp only); omega)⟩ ⟨(by (try dsimp only); omega), (by (try dsimp only); omega)⟩ (fun v g1 hp => ?_)
    rw [hfull1] at hp
    obtain ⟨rfl, hg1⟩ := hp
    replace hg1 := hg1.symm
    subst hg1
    refine x_aloadr_n hC dX0_passes_122 (q := 123) rfl rfl ?_
    refine x_get hC xf_X0_115_16 dX0_passes_123 (q := 126) rfl (n := (120, 0)) (hd0 _) rfl ?_
    refine x_iload hC dX0_passes_126 (q := 128) rfl rfl ?_
    refine x_iald hC dX0_passes_128 (q := 129) rfl (n := (122, 0)) (hd3 _ 6 (by decide) (by decide)) (j := q) rfl (by omega) (by decide) ?_
    rw [v6]
    refine x_icmp_ne hC dX0_passes_129 (q := 132) rfl (tgt := 149) rfl (fun h129 => ?_) (fun h129 => ?_)
    · exact absurd rfl h129
    refine x_aloadr_n hC dX0_passes_132 (q := 133) rfl rfl ?_
    refine x_iload hC dX0_passes_133 (q := 135) rfl rfl ?_
    refine x_iconst hC dX0_passes_135 (q := 136) rfl (v := (2)) (by decide) ?_
    refine x_callV hC xv_X0_80 dX0_passes_136 (q := 139) rfl rfl (m_X2_kiln_2 h0 ρ _ hwr q hqr) (nn := (0, 0)) rfl rfl rfl (Nat.le_of_ble_eq_true rfl) ⟨(by (try dsimp only); omega), (by (try dsimp only); omega)⟩ ⟨(by (try dsimp only); omega), (by (try dsimp only); omega)⟩ (fun v g1 hp => ?_)
    rw [h41r] at hp
    obtain ⟨rfl, hg1⟩ := hp
    replace hg1 := hg1.symm
    subst hg1
    refine x_aloadr_n hC dX0_passes_139 (q := 140) rfl rfl ?_
    refine x_get hC xf_X0_149_16 dX0_passes_140 (q := 143) rfl (n := (120, 0)) (hd0 _) rfl ?_
    refine x_iload hC dX0_passes_143 (q := 145) rfl rfl ?_
    refine x_iald hC dX0_passes_145 (q := 146) rfl (n := (123, 0)) (hd3 _ 7 (by decide) (by decide)) (j := q) rfl (by omega) (by decide) ?_
    rw [v7]
    refine x_icmp_eq hC dX0_passes_146 (q := 149) rfl (tgt := 266) rfl (fun h146 => ?_) (fun h146 => ?_)
    · have hx146 := h146
      refine x_iinc hC dX0_passes_266 (q := 269) rfl rfl (v := nI (q + 1)) (nI_1 q) ?_
      refine x_goto hC dX0_passes_269 (tgt := 31) rfl ?_
      first
        | (rw [← wL_n hnf, ← wCn_n hnf]; exact ih (q + 1, upd arr q b, u8) ⟨by (try dsimp only); omega, harr2⟩ (by (try dsimp only); omega))
        | exact ih (q + 1, upd arr q b, _) ⟨by (try dsimp only); omega, harr2⟩ (by (try dsimp only); omega)
    · exact absurd rfl h146
  · exact absurd rfl h102
