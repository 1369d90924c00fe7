/-! areBrothers -/
theorem b_sub (S : Int32) (P : Nat → Prop) : ∃ U : Int32, ∀ i, i < 32 → (bt U i = true ↔ bt S i = true ∧ P i) := by
  have : ∀ m, ∃ T : Int32, ∀ i, i < 32 → (bt T i = true ↔ bt S i = true ∧ i < m ∧ P i) := by
    intro m
    induction m with
    | zero => exact ⟨0, fun i hi => by rw [b_0]; exact ⟨fun e => (by cases e), fun e => absurd e.2.1 (Nat.not_lt_zero i)⟩⟩
    | succ m ih =>
      obtain ⟨T, hT⟩ := ih
      by_cases e : m < 32 ∧ bt S m = true ∧ P m
      · refine ⟨T ||| ((1 : Int32) <<< (nI m &&& 31)), fun i hi => ?_⟩
        rw [b_or, b_one e.1 hi, Bool.or_eq_true, hT i hi, decide_eq_true_eq]
        constructor
        · rintro (a | a)
          · exact ⟨a.1, by omega, a.2.2⟩
          · subst a; exact ⟨e.2.1, by omega, e.2.2⟩
        · rintro ⟨a, b, d⟩
          by_cases v : i = m
          · exact Or.inr v
          · exact Or.inl ⟨a, by omega, d⟩
      · refine ⟨T, fun i hi => ?_⟩
        rw [hT i hi]
        refine ⟨fun a => ⟨a.1, by omega, a.2.2⟩, fun a => ⟨a.1, ?_, a.2.2⟩⟩
        by_cases v : i = m
        · subst v; exact absurd ⟨hi, a.1, a.2.2⟩ e
        · omega
  obtain ⟨T, hT⟩ := this 32
  exact ⟨T, fun i hi => by rw [hT i hi]; exact ⟨fun a => ⟨a.1, a.2.2⟩, fun a => ⟨a.1, hi, a.2⟩⟩⟩
theorem kBr_mem {σ : KS} (h8 : kA σ 61 0 ≤ 8) (hM : KMk σ) {c : Nat} (hc : c < kA σ 61 0) (hfd : ¬ kI σ 34 c = -1) {S : Int32} (h : kBr σ c S) {i : Nat} (hi : i < 32) (hb : bt S i = true) : i < kA σ 61 0 ∧ ¬ kI σ 34 i = -1 := by
  obtain ⟨b1, b2, b3⟩ := h
  obtain ⟨T, hT⟩ := b_sub S (fun i => i < kA σ 61 0 ∧ ¬ kI σ 34 i = -1)
  refine ((hT i hi).mp (b3 T ((hT c (by omega)).mpr ⟨b1, hc, hfd⟩) (fun k hk hb i hi hbi => ?_) i hi hb)).2
  obtain ⟨t1, t2, t3⟩ := (hT k (by omega)).mp hb
  have m1 := (hM k hk).1 i hi hbi
  refine (hT i hi).mpr ⟨b2 k hk t1 i hi hbi, m1.1, fun w => ?_⟩
  have := (hM i m1.1).2 w k (by omega)
  rw [m1.2.2] at this
  cases this
theorem kBr_sym {σ : KS} (h8 : kA σ 61 0 ≤ 8) (hM : KMk σ) {c b : Nat} (hc : c < kA σ 61 0) {S : Int32} (h : kBr σ c S) (hb32 : b < 32) (hb : bt S b = true) : kBr σ b S := by
  obtain ⟨b1, b2, b3⟩ := h
  refine ⟨hb, b2, fun T t1 t2 => ?_⟩
  refine b3 T ?_ t2
  obtain ⟨U, hU⟩ := b_sub S (fun i => ∀ T, bt T i = true → kCl σ T → bt T c = true)
  refine ((hU b hb32).mp (b3 U ((hU c (by omega)).mpr ⟨b1, fun T a _ => a⟩) (fun k hk hbk i hi hbi => ?_) b hb32 hb)).2 T t1 t2
  obtain ⟨u1, u2⟩ := (hU k (by omega)).mp hbk
  have m1 := (hM k hk).1 i hi hbi
  exact (hU i hi).mpr ⟨b2 k hk u1 i hi hbi, fun T a b => u2 T (b i m1.1 a k (by omega) m1.2.2) b⟩

set_option maxHeartbeats 4000000 in
set_option maxRecDepth 100000 in
theorem m_X0_areBrothers {l : Launch} {s0 : State} {D : va_G} (h0 : x0 l s0 D) (σ : KS) (gF : xG) {aa ta d0 : Nat} {α : aA} {f0 : Nat → Int32} (hA : AH gF aa α) (hok : aOk α) (hL : LSt gF α d0 σ) (h142 : gF (142, 0) = some (ta, xAi .int 6 f0)) (hT : ∀ d, d < aI α 0 → 0 ≤ f0 d → f0 d = iI (kI σ 34 d))  : xMet l s0 D yX0_areBrothers cX0_areBrothers 7 (some .boolean) (xr 6 0 0 160) [.ref (kA σ 0 0), .ref aa, .ref ta] (kmix σ gF) (fun r g1 => ∃ ft, r = some (.int 1) ∧ (∀ d, d < aI α 0 → ft d = iI (kI σ 34 d)) ∧ g1 = kmix σ (xu gF (142, 0) (some (ta, xAi .int 6 ft)))) := by
  obtain ⟨⟨hF, hv, hpP, hN, hR, hTc, hAc, h7, h4⟩, hl, hLW, hM, hRw, hrow, hfu, hck, -⟩ := id hL
  have hw := hv.1
  obtain ⟨ca, ga, rm, hat', -, -, -⟩ := id hA
  have hat : ∀ x, kmix σ (xu gF (142, 0) x) (101, 0) = _ := fun x => (kmix_F _ _ _ rfl).trans ((xu_ne (n_fst rfl)).trans hat')
  have hb0 := hok.1
  have hb1 := hok.2.1
  refine xMet.of h0 (by decide +kernel) rfl ?_
  intro zp ze zs zm za zb zf zc hC hr hnm
  refine x_geq (g' := (kmix σ (xu gF (142, 0) (some (ta, xAi .int 6 f0))))) (by rw [xu_self h142]) ?_
  refine x_iconst hC dX0_areBrothers_0 (q := 1) rfl (v := (0)) (by decide) ?_
  refine x_istore_n hC dX0_areBrothers_1 (q := 2) rfl rfl ?_
  refine x_loop (S := (fun x : Nat × (Nat → Int32) × Option Value × Option Value × Option Value => ((0 : Nat), (0 : Nat), (kmix σ (xu gF (142, 0) (some (ta, xAi .int 6 x.2.1)))), ([some (.ref (kA σ 0 0)), some (.ref aa), some (.ref ta), some (.int (nI x.1)), x.2.2.1, x.2.2.2.1, x.2.2.2.2] : xL), ([] : List Value)))) (Inv := fun x => x.1 ≤ aI α 0 ∧ (∀ d, d < x.1 → x.2.1 d = iI (kI σ 34 d)) ∧ ∀ d, d < aI α 0 → x.1 ≤ d → 0 ≤ x.2.1 d → x.2.1 d = iI (kI σ 34 d)) (μ := fun x => aI α 0 - x.1) ?_ (0, f0, none, none, none) ⟨Nat.zero_le _, fun d hd => absurd hd (Nat.not_lt_zero d), fun d hd _ => hT d hd⟩
  intro x hi ih
  obtain ⟨c, ft, u4, u5, u6⟩ := x
  obtain ⟨hi, hf1, hf2⟩ := hi
  dsimp only at hi hf1 hf2 ih ⊢
  refine x_iload_n hC dX0_areBrothers_2 (q := 3) rfl rfl ?_
  refine x_aloadr_n hC dX0_areBrothers_3 (q := 4) rfl rfl ?_
  refine x_get hC xf_X0_60_0 dX0_areBrothers_4 (q := 7) rfl (n := (101, 0)) (hat _) rfl ?_
  refine x_icmp_ge hC dX0_areBrothers_7 (q := 10) rfl (tgt := 179) rfl (fun h7 => ?_) (fun h7 => ?_)
  · have hc1 : c = aI α 0 := by
      have := (nI_leI (a := aI α 0) (b := c) (by omega) (by omega)).mp h7
      omega
    subst hc1
    refine x_iconst hC dX0_areBrothers_179 (q := 180) rfl (v := (1)) (by decide) ?_
    exact x_zret hC hr rfl dX0_areBrothers_180 (Nat.le_of_ble_eq_true rfl) (Nat.le_of_ble_eq_true rfl) ⟨ft, rfl, hf1, rfl⟩
  have hc1 : c < aI α 0 := Nat.not_le.mp (fun w => h7 (nI_le w (by omega)))
  have hc2 : c < kA σ 61 0 := by rw [hl.1]; exact hc1
  have h34 := (hN.1 c hc2).1
  have hraw : iI (kI σ 34 c) < 0 ↔ kI σ 34 c = -1 := by
    rw [show (0 : Int32) = iI 0 from rfl, iI_lt (a := kI σ 34 c) ⟨by omega, by omega⟩ ⟨by decide, by decide⟩]
    omega
  have hrawI : iI (kI σ 34 c) = -1 ↔ kI σ 34 c = -1 := iI_eq (b := -1) ⟨by omega, by omega⟩ ⟨by decide, by decide⟩
  refine x_aloadr_n hC dX0_areBrothers_10 (q := 11) rfl rfl ?_
  refine x_iload_n hC dX0_areBrothers_11 (q := 12) rfl rfl ?_
  refine x_iconst hC dX0_areBrothers_12 (q := 13) rfl (v := (5)) (by decide) ?_
  refine x_callV hC xv_X0_63 dX0_areBrothers_13 (q := 16) rfl rfl (m_X2_child_5 h0 σ _ hw c hc2) (nn := (0, 0)) rfl rfl rfl (Nat.le_of_ble_eq_true rfl) ⟨(by (try dsimp only); omega), (by (try dsimp only); omega)⟩ ⟨(by (try dsimp only); omega), (by (try dsimp only); omega)⟩ (fun v g1 hp => ?_)
  obtain ⟨rfl, hg1⟩ := hp
  replace hg1 := hg1.symm
  subst hg1
  refine x_istore hC dX0_areBrothers_16 (q := 18) rfl rfl ?_
  refine x_aloadr_n hC dX0_areBrothers_18 (q := 19) rfl rfl ?_
  refine x_iload_n hC dX0_areBrothers_19 (q := 20) rfl rfl ?_
  refine x_iald hC dX0_areBrothers_20 (q := 21) rfl (n := (142, 0)) ((kmix_F _ _ _ rfl).trans (xu_eq _ _ _)) (j := c) rfl (by omega) (by decide) ?_
  refine x_meet (pc2 := 32) (S := (fun _ : Unit => ((0 : Nat), (0 : Nat), (kmix σ (xu gF (142, 0) (some (ta, xAi .int 6 ft)))), ([some (.ref (kA σ 0 0)), some (.ref aa), some (.ref ta), some (.int (nI c)), some (.int (iI (kI σ 34 c))), u5, u6] : xL), ([] : List Value)))) (Inv := fun _ => True) (fun ih => ?_) (fun xx hi => ?_)
  · refine x_if_lt hC dX0_areBrothers_21 (q := 24) rfl (tgt := 32) rfl (fun h21 => ?_) (fun h21 => ?_)
    · have hx21 := h21
      exact ih () trivial
    have hx21 := hf2 c hc1 (Nat.le_refl _) (Int32.not_lt.mp h21)
    refine x_iload hC dX0_areBrothers_24 (q := 26) rfl rfl ?_
    refine x_aloadr_n hC dX0_areBrothers_26 (q := 27) rfl rfl ?_
    refine x_iload_n hC dX0_areBrothers_27 (q := 28) rfl rfl ?_
    refine x_iald hC dX0_areBrothers_28 (q := 29) rfl (n := (142, 0)) ((kmix_F _ _ _ rfl).trans (xu_eq _ _ _)) (j := c) rfl (by omega) (by decide) ?_
    refine x_icmp_ne hC dX0_areBrothers_29 (q := 32) rfl (tgt := 93) rfl (fun h29 => ?_) (fun h29 => ?_)
    · exact absurd hx21.symm h29
    exact ih () trivial
  dsimp only
  refine x_iload hC dX0_areBrothers_32 (q := 34) rfl rfl ?_
  refine x_meet (pc2 := 62) (S := (fun _ : Unit => ((0 : Nat), (0 : Nat), (kmix σ (xu gF (142, 0) (some (ta, xAi .int 6 ft)))), ([some (.ref (kA σ 0 0)), some (.ref aa), some (.ref ta), some (.int (nI c)), some (.int (iI (kI σ 34 c))), u5, u6] : xL), ([] : List Value)))) (Inv := fun _ => True) (fun ih => ?_) (fun xx hi => ?_)
  · refine x_if_lt hC dX0_areBrothers_34 (q := 37) rfl (tgt := 46) rfl (fun h34x => ?_) (fun h34x => ?_)
    · have hx34 := h34x
      refine x_iload hC dX0_areBrothers_46 (q := 48) rfl rfl ?_
      refine x_if_ge hC dX0_areBrothers_48 (q := 51) rfl (tgt := 62) rfl (fun h48 => ?_) (fun h48 => ?_)
      · have hx48 := h48
        exact ih () trivial
      have hx48 := hraw.mp (Int32.not_le.mp h48)
      refine x_aloadr_n hC dX0_areBrothers_51 (q := 52) rfl rfl ?_
      refine x_iload_n hC dX0_areBrothers_52 (q := 53) rfl rfl ?_
      refine x_bipush hC dX0_areBrothers_53 (q := 55) rfl (v := (6)) (by decide) ?_
      refine x_callV hC xv_X0_63 dX0_areBrothers_55 (q := 58) rfl rfl (m_X2_child_6 h0 σ _ hw c hc2) (nn := (0, 0)) rfl rfl rfl (Nat.le_of_ble_eq_true rfl) ⟨(by (try dsimp only); omega), (by (try dsimp only); omega)⟩ ⟨(by (try dsimp only); omega), (by (try dsimp only); omega)⟩ (fun v g1 hp => ?_)
      rw [show (if iI (kI σ 36 c) = 0 then (0 : Int32) else 1) = 0 from if_pos (by rw [hck c hc2 hx48]; rfl)] at hp
      obtain ⟨rfl, hg1⟩ := hp
      replace hg1 := hg1.symm
      subst hg1
      refine x_iconst hC dX0_areBrothers_58 (q := 59) rfl (v := (1)) (by decide) ?_
      refine x_icmp_eq hC dX0_areBrothers_59 (q := 62) rfl (tgt := 93) rfl (fun h59 => ?_) (fun h59 => ?_)
      · exact absurd h59 (by decide)
      exact ih () trivial
    have hx34 := h34x
    refine x_aloadr_n hC dX0_areBrothers_37 (q := 38) rfl rfl ?_
    refine x_iload_n hC dX0_areBrothers_38 (q := 39) rfl rfl ?_
    refine x_iconst hC dX0_areBrothers_39 (q := 40) rfl (v := (2)) (by decide) ?_
    refine x_callV hC xv_X0_63 dX0_areBrothers_40 (q := 43) rfl rfl (m_X2_child_2 h0 σ _ hw c hc2) (nn := (0, 0)) rfl rfl rfl (Nat.le_of_ble_eq_true rfl) ⟨(by (try dsimp only); omega), (by (try dsimp only); omega)⟩ ⟨(by (try dsimp only); omega), (by (try dsimp only); omega)⟩ (fun v g1 hp => ?_)
    rw [show kKil σ c = -1 from by
      unfold kKil
      cases e : kO σ 0 c 0 with
      | none => rfl
      | some q => exact absurd (hraw.mpr (hRw c q hc2 e)) hx34] at hp
    obtain ⟨rfl, hg1⟩ := hp
    replace hg1 := hg1.symm
    subst hg1
    refine x_if_ge hC dX0_areBrothers_43 (q := 46) rfl (tgt := 93) rfl (fun h43 => ?_) (fun h43 => ?_)
    · exact absurd h43 (by decide)
    refine x_iload hC dX0_areBrothers_46 (q := 48) rfl rfl ?_
    refine x_if_ge hC dX0_areBrothers_48 (q := 51) rfl (tgt := 62) rfl (fun h48 => ?_) (fun h48 => ?_)
    · have hx48 := h48
      exact ih () trivial
    have hx48 := hraw.mp (Int32.not_le.mp h48)
    refine x_aloadr_n hC dX0_areBrothers_51 (q := 52) rfl rfl ?_
    refine x_iload_n hC dX0_areBrothers_52 (q := 53) rfl rfl ?_
    refine x_bipush hC dX0_areBrothers_53 (q := 55) rfl (v := (6)) (by decide) ?_
    refine x_callV hC xv_X0_63 dX0_areBrothers_55 (q := 58) rfl rfl (m_X2_child_6 h0 σ _ hw c hc2) (nn := (0, 0)) rfl rfl rfl (Nat.le_of_ble_eq_true rfl) ⟨(by (try dsimp only); omega), (by (try dsimp only); omega)⟩ ⟨(by (try dsimp only); omega), (by (try dsimp only); omega)⟩ (fun v g1 hp => ?_)
    rw [show (if iI (kI σ 36 c) = 0 then (0 : Int32) else 1) = 0 from if_pos (by rw [hck c hc2 hx48]; rfl)] at hp
    obtain ⟨rfl, hg1⟩ := hp
    replace hg1 := hg1.symm
    subst hg1
    refine x_iconst hC dX0_areBrothers_58 (q := 59) rfl (v := (1)) (by decide) ?_
    refine x_icmp_eq hC dX0_areBrothers_59 (q := 62) rfl (tgt := 93) rfl (fun h59 => ?_) (fun h59 => ?_)
    · exact absurd h59 (by decide)
    exact ih () trivial
  dsimp only
  refine x_aloadr_n hC dX0_areBrothers_62 (q := 63) rfl rfl ?_
  refine x_iload_n hC dX0_areBrothers_63 (q := 64) rfl rfl ?_
  refine x_iconst hC dX0_areBrothers_64 (q := 65) rfl (v := (2)) (by decide) ?_
  refine x_callV hC xv_X0_63 dX0_areBrothers_65 (q := 68) rfl rfl (m_X2_child_2 h0 σ _ hw c hc2) (nn := (0, 0)) rfl rfl rfl (Nat.le_of_ble_eq_true rfl) ⟨(by (try dsimp only); omega), (by (try dsimp only); omega)⟩ ⟨(by (try dsimp only); omega), (by (try dsimp only); omega)⟩ (fun v g1 hp => ?_)
  obtain ⟨rfl, hg1⟩ := hp
  replace hg1 := hg1.symm
  subst hg1
  refine x_meet (pc2 := 76) (S := (fun x : Int32 => ((0 : Nat), (0 : Nat), (kmix σ (xu gF (142, 0) (some (ta, xAi .int 6 ft)))), ([some (.ref (kA σ 0 0)), some (.ref aa), some (.ref ta), some (.int (nI c)), some (.int (iI (kI σ 34 c))), u5, u6] : xL), ([.int x] : List Value)))) (Inv := fun x => x = (if kO σ 0 c 0 = none then 1 else 0)) (fun ih => ?_) (fun xx hi => ?_)
  · refine x_if_ge hC dX0_areBrothers_68 (q := 71) rfl (tgt := 75) rfl (fun h68 => ?_) (fun h68 => ?_)
    · have hno : ¬ kO σ 0 c 0 = none := fun e => by unfold kKil at h68; rw [e] at h68; exact absurd h68 (by decide)
      refine x_iconst hC dX0_areBrothers_75 (q := 76) rfl (v := (0)) (by decide) ?_
      first
        | exact ih 1 (by rw [if_pos hno])
        | exact ih 0 (by rw [if_neg hno])
    have hno : kO σ 0 c 0 = none := by
      cases e : kO σ 0 c 0 with
      | none => rfl
      | some q =>
        unfold kKil at h68; rw [e] at h68
        exact absurd (nI_le (a := 0) (b := q) (Nat.zero_le _) (by have := (hpP.2.1 c q hc2 e).1; rw [hl.2.1] at this; omega)) h68
    refine x_iconst hC dX0_areBrothers_71 (q := 72) rfl (v := (1)) (by decide) ?_
    refine x_goto hC dX0_areBrothers_72 (tgt := 76) rfl ?_
    first
      | exact ih 1 (by rw [if_pos hno])
      | exact ih 0 (by rw [if_neg hno])
  obtain ⟨b0, hb0x⟩ : ∃ z, z = xx := ⟨_, rfl⟩
  subst hb0x
  have hbi := hi
  clear hi
  dsimp only at hbi ⊢
  refine x_aloadr_n hC dX0_areBrothers_76 (q := 77) rfl rfl ?_
  refine x_iload_n hC dX0_areBrothers_77 (q := 78) rfl rfl ?_
  refine x_iconst hC dX0_areBrothers_78 (q := 79) rfl (v := (3)) (by decide) ?_
  refine x_callV hC xv_X0_63 dX0_areBrothers_79 (q := 82) rfl rfl (m_X2_child_3 h0 σ _ hw c hc2) (nn := (0, 0)) rfl rfl rfl (Nat.le_of_ble_eq_true rfl) ⟨(by (try dsimp only); omega), (by (try dsimp only); omega)⟩ ⟨(by (try dsimp only); omega), (by (try dsimp only); omega)⟩ (fun v g1 hp => ?_)
  obtain ⟨rfl, hg1⟩ := hp
  replace hg1 := hg1.symm
  subst hg1
  refine x_meet (pc2 := 90) (S := (fun x : Int32 => ((0 : Nat), (0 : Nat), (kmix σ (xu gF (142, 0) (some (ta, xAi .int 6 ft)))), ([some (.ref (kA σ 0 0)), some (.ref aa), some (.ref ta), some (.int (nI c)), some (.int (iI (kI σ 34 c))), u5, u6] : xL), ([.int x, .int b0] : List Value)))) (Inv := fun x => x = (if kO σ 0 c 0 = none then 1 else 0)) (fun ih => ?_) (fun xx hi => ?_)
  · refine x_if_ge hC dX0_areBrothers_82 (q := 85) rfl (tgt := 89) rfl (fun h82 => ?_) (fun h82 => ?_)
    · have hno : ¬ kO σ 0 c 0 = none := fun e => by
        rw [hpP.2.2 c hc2 e] at h82
        exact absurd h82 (by decide)
      refine x_iconst hC dX0_areBrothers_89 (q := 90) rfl (v := (0)) (by decide) ?_
      first
        | exact ih 1 (by rw [if_pos hno])
        | exact ih 0 (by rw [if_neg hno])
    have hno : kO σ 0 c 0 = none := by
      cases e : kO σ 0 c 0 with
      | none => rfl
      | some q =>
        obtain ⟨-, p, p1, p2⟩ := hpP.2.1 c q hc2 e
        rw [p2, iI_nat] at h82
        have h33 := hl.at33 hpP hok hc1
        exact absurd (nI_le (a := 0) (b := p) (Nat.zero_le _) (by omega)) h82
    refine x_iconst hC dX0_areBrothers_85 (q := 86) rfl (v := (1)) (by decide) ?_
    refine x_goto hC dX0_areBrothers_86 (tgt := 90) rfl ?_
    first
      | exact ih 1 (by rw [if_pos hno])
      | exact ih 0 (by rw [if_neg hno])
  obtain ⟨b1x, hb1x⟩ : ∃ z, z = xx := ⟨_, rfl⟩
  subst hb1x
  rw [show b1x = b0 from hi.trans hbi.symm]
  dsimp only
  refine x_icmp_eq hC dX0_areBrothers_90 (q := 93) rfl (tgt := 95) rfl (fun h90 => ?_) (fun h90 => ?_)
  · have hx90 := h90
    refine x_aloadr_n hC dX0_areBrothers_95 (q := 96) rfl rfl ?_
    refine x_iload_n hC dX0_areBrothers_96 (q := 97) rfl rfl ?_
    refine x_iload hC dX0_areBrothers_97 (q := 99) rfl rfl ?_
    refine x_iast hC dX0_areBrothers_99 (q := 100) rfl (n := (142, 0)) rfl ((kmix_F _ _ _ rfl).trans (xu_eq _ _ _)) (j := c) rfl (by omega) (by decide) ?_
    refine x_geq (g' := (kmix σ (xu gF (142, 0) (some (ta, xAi .int 6 (upd ft c (iI (kI σ 34 c)))))))) (by rw [kmix_xuF _ _ _ _ rfl, xu_xu]) ?_
    refine x_aloadr_n hC dX0_areBrothers_100 (q := 101) rfl rfl ?_
    refine x_iload_n hC dX0_areBrothers_101 (q := 102) rfl rfl ?_
    refine x_callV hC xv_X0_230 dX0_areBrothers_102 (q := 105) rfl rfl (m_bro2 h0 σ _ hw c hc2) (nn := (0, 0)) rfl rfl rfl (Nat.le_of_ble_eq_true rfl) ⟨(by (try dsimp only); omega), (by (try dsimp only); omega)⟩ ⟨(by (try dsimp only); omega), (by (try dsimp only); omega)⟩ (fun v g1 hp => ?_)
    obtain ⟨S, rfl, hS, hg1⟩ := hp
    replace hg1 := hg1.symm
    subst hg1
    refine x_istore hC dX0_areBrothers_105 (q := 107) rfl rfl ?_
    refine x_iload hC dX0_areBrothers_107 (q := 109) rfl rfl ?_
    refine x_meet (pc2 := 131) (S := (fun _ : Unit => ((0 : Nat), (0 : Nat), (kmix σ (xu gF (142, 0) (some (ta, xAi .int 6 (upd ft c (iI (kI σ 34 c))))))), ([some (.ref (kA σ 0 0)), some (.ref aa), some (.ref ta), some (.int (nI c)), some (.int (iI (kI σ 34 c))), some (.int S), u6] : xL), ([] : List Value)))) (Inv := fun _ => True) (fun ih => ?_) (fun xx hi => ?_)
    · refine x_if_ge hC dX0_areBrothers_109 (q := 112) rfl (tgt := 120) rfl (fun h109 => ?_) (fun h109 => ?_)
      · have hfd : ¬ iI (kI σ 34 c) = -1 := fun w => by rw [w] at h109; exact absurd h109 (by decide)
        refine x_iload hC dX0_areBrothers_120 (q := 122) rfl rfl ?_
        refine x_iload_n hC dX0_areBrothers_122 (q := 123) rfl rfl ?_
        refine x_ishr hC dX0_areBrothers_123 (q := 124) rfl ?_
        refine x_iconst hC dX0_areBrothers_124 (q := 125) rfl (v := (1)) (by decide) ?_
        refine x_iand hC dX0_areBrothers_125 (q := 126) rfl ?_
        refine x_if_ne hC dX0_areBrothers_126 (q := 129) rfl (tgt := 131) rfl (fun h126 => ?_) (fun h126 => ?_)
        · have hx126 := h126
          exact ih () trivial
        · have hbt := (b_at0 S (show c < 32 by omega)).mp h126
          rw [(hS.2 hfd).1] at hbt
          cases hbt
      have hrw1 : iI (kI σ 34 c) = -1 := hrawI.mpr (hraw.mp (Int32.not_le.mp h109))
      refine x_iload hC dX0_areBrothers_112 (q := 114) rfl rfl ?_
      refine x_if_eq hC dX0_areBrothers_114 (q := 117) rfl (tgt := 131) rfl (fun h114 => ?_) (fun h114 => ?_)
      · have hx114 := h114
        exact ih () trivial
      · exact absurd (hS.1 hrw1) h114
    dsimp only
    refine x_iconst hC dX0_areBrothers_131 (q := 132) rfl (v := (0)) (by decide) ?_
    refine x_istore hC dX0_areBrothers_132 (q := 134) rfl rfl ?_
    refine x_loop (S := (fun x : Nat => ((0 : Nat), (0 : Nat), (kmix σ (xu gF (142, 0) (some (ta, xAi .int 6 (upd ft c (iI (kI σ 34 c))))))), ([some (.ref (kA σ 0 0)), some (.ref aa), some (.ref ta), some (.int (nI c)), some (.int (iI (kI σ 34 c))), some (.int S), some (.int (nI x))] : xL), ([] : List Value)))) (Inv := fun x => x ≤ aI α 0) (μ := fun x => aI α 0 - x) ?_ 0 (Nat.zero_le _)
    intro b hj ih2
    dsimp only at hj ih2 ⊢
    refine x_iload hC dX0_areBrothers_134 (q := 136) rfl rfl ?_
    refine x_aloadr_n hC dX0_areBrothers_136 (q := 137) rfl rfl ?_
    refine x_get hC xf_X0_60_0 dX0_areBrothers_137 (q := 140) rfl (n := (101, 0)) (hat _) rfl ?_
    refine x_icmp_ge hC dX0_areBrothers_140 (q := 143) rfl (tgt := 173) rfl (fun h140 => ?_) (fun h140 => ?_)
    · have hx140 := h140
      refine x_iinc hC dX0_areBrothers_173 (q := 176) rfl rfl (v := nI (c + 1)) (nI_1 c) ?_
      refine x_goto hC dX0_areBrothers_176 (tgt := 2) rfl ?_
      exact ih (c + 1, _, _, _, _) ⟨by (try dsimp only); omega, fun d hd => by
        show upd ft c (iI (kI σ 34 c)) d = _
        unfold upd
        by_cases e : d = c
        · rw [if_pos e, e]
        · rw [if_neg e]; exact hf1 d (by (try dsimp only at hd); omega), fun d hd hle => by
        show 0 ≤ upd ft c (iI (kI σ 34 c)) d → upd ft c (iI (kI σ 34 c)) d = _
        unfold upd
        rw [if_neg (by (try dsimp only at hle); omega)]
        exact hf2 d hd (by (try dsimp only at hle); omega)⟩ (by (try dsimp only); omega)
    have hb1: b < aI α 0 := Nat.not_le.mp (fun w => h140 (nI_le w (by omega)))
    have hb2 : b < kA σ 61 0 := by rw [hl.1]; exact hb1
    refine x_iload hC dX0_areBrothers_143 (q := 145) rfl rfl ?_
    refine x_iload hC dX0_areBrothers_145 (q := 147) rfl rfl ?_
    refine x_ishr hC dX0_areBrothers_147 (q := 148) rfl ?_
    refine x_iconst hC dX0_areBrothers_148 (q := 149) rfl (v := (1)) (by decide) ?_
    refine x_iand hC dX0_areBrothers_149 (q := 150) rfl ?_
    refine x_iconst hC dX0_areBrothers_150 (q := 151) rfl (v := (1)) (by decide) ?_
    refine x_icmp_ne hC dX0_areBrothers_151 (q := 154) rfl (tgt := 167) rfl (fun h151 => ?_) (fun h151 => ?_)
    · have hx151 := h151
      refine x_iinc hC dX0_areBrothers_167 (q := 170) rfl rfl (v := nI (b + 1)) (nI_1 b) ?_
      refine x_goto hC dX0_areBrothers_170 (tgt := 134) rfl ?_
      exact ih2 (b + 1) (by (try dsimp only); omega) (by (try dsimp only); omega)
    have hbt : bt S b = true := (b_at S (show b < 32 by omega)).mp h151
    have hfd : ¬ iI (kI σ 34 c) = -1 := fun w => by
      rw [hS.1 w, b_0] at hbt
      cases hbt
    have hkb := hS.2 hfd
    have hmem := kBr_mem hw.1 hM hc2 (fun w => hfd (hrawI.mpr w)) hkb (show b < 32 by omega) hbt
    have h34b := (hN.1 b hb2).1
    have hfb : ¬ iI (kI σ 34 b) = -1 := fun w => hmem.2 ((iI_eq (b := -1) ⟨by omega, by omega⟩ ⟨by decide, by decide⟩).mp w)
    refine x_aloadr_n hC dX0_areBrothers_154 (q := 155) rfl rfl ?_
    refine x_iload hC dX0_areBrothers_155 (q := 157) rfl rfl ?_
    refine x_callV hC xv_X0_230 dX0_areBrothers_157 (q := 160) rfl rfl (m_X2_brothers_f h0 σ _ hw b hb2 hfb) (nn := (0, 0)) rfl rfl rfl (Nat.le_of_ble_eq_true rfl) ⟨(by (try dsimp only); omega), (by (try dsimp only); omega)⟩ ⟨(by (try dsimp only); omega), (by (try dsimp only); omega)⟩ (fun v g1 hp => ?_)
    obtain ⟨S2, rfl, hS2, hg1⟩ := hp
    replace hg1 := hg1.symm
    subst hg1
    rw [kBr_eq hS2 (kBr_sym hw.1 hM hc2 hkb (show b < 32 by omega) hbt)]
    refine x_iload hC dX0_areBrothers_160 (q := 162) rfl rfl ?_
    refine x_icmp_eq hC dX0_areBrothers_162 (q := 165) rfl (tgt := 167) rfl (fun h162 => ?_) (fun h162 => ?_)
    · have hx162 := h162
      refine x_iinc hC dX0_areBrothers_167 (q := 170) rfl rfl (v := nI (b + 1)) (nI_1 b) ?_
      refine x_goto hC dX0_areBrothers_170 (tgt := 134) rfl ?_
      exact ih2 (b + 1) (by (try dsimp only); omega) (by (try dsimp only); omega)
    · exact absurd rfl h162
  · exact absurd rfl h90
