/-! Bench.isSafe -/
/-- who lies in the next place, if there is one -/
def kNx (σ : KS) (kq p : Nat) : Option Nat := if p + 1 < kA σ 25 kq then kO σ 1 kq (p + 1) else none
/-- at a place nobody cracks or sticks -/
def kSfP (F : Nat → Option (aEnv → Int64)) (σ : KS) (kq : Nat) (hh : Int32) (t k : Nat → Nat → Int32) (p : Nat) : Prop := ∀ c, kO σ 1 kq p = some c → k c p = 0 ∧ ∀ d, kNx σ kq p = some d → kStick F σ c (t c p) d (t d (p + 1)) hh = 0
section KSF
variable {F : Nat → Option (aEnv → Int64)} {σ : KS} {kq : Nat} {hh : Int32} {t k : Nat → Nat → Int32} {p : Nat}
theorem kSf_a (h : kO σ 1 kq p = none) : kSfP F σ kq hh t k p := fun c hc => by rw [h] at hc; cases hc
theorem kSf_b {c : Nat} (h : kO σ 1 kq p = some c) (h1 : k c p = 0) (h2 : kNx σ kq p = none) : kSfP F σ kq hh t k p := fun c' hc => by
  rw [h] at hc; cases hc
  exact ⟨h1, fun d hd => by rw [h2] at hd; cases hd⟩
theorem kSf_c {c d : Nat} (h : kO σ 1 kq p = some c) (h1 : k c p = 0) (h2 : kNx σ kq p = some d) (h3 : kStick F σ c (t c p) d (t d (p + 1)) hh = 0) : kSfP F σ kq hh t k p := fun c' hc => by
  rw [h] at hc; cases hc
  exact ⟨h1, fun d' hd => by rw [h2] at hd; cases hd; exact h3⟩
end KSF
theorem xk_rf (r : Option Nat) : xk (some (va_rf r)) = some (va_rf r) := by cases r <;> rfl
theorem omap {α β : Type} {o : Option α} {g : α → β} {b : β} (h : o.map g = some b) : ∃ x, o = some x := by
  cases o with
  | none => cases h
  | some x => exact ⟨x, rfl⟩

set_option maxHeartbeats 4000000 in
set_option maxRecDepth 100000 in
theorem m_X21_isSafe {l : Launch} {s0 : State} {D : va_G} (h0 : x0 l s0 D) (σ : KS) (gF : xG) (f : aEnv) {F : Nat → Option (aEnv → Int64)} (hF : kF gF σ F) (hw : KW σ) (hNB : kNB gF) {a aT aC kq : Nat} (hq : kq < kA σ 62 0) {hh : Int32} {t k : Nat → Nat → Int32}  : xMet l s0 D yX21_isSafe cX21_isSafe 4 (some .boolean) (xr 39 0 0 1700) [.ref a] (kmix (kT σ f) (kBF gF a aT aC (kA σ 21 kq) hh (kA σ 0 0) t k)) (fun r g1 => ∃ f1, ((∀ q, q < kA σ 25 kq → kSfP F σ kq hh t k q) ∧ r = some (.int 1) ∨ (∃ q, q < kA σ 25 kq ∧ ¬ kSfP F σ kq hh t k q) ∧ r = some (.int 0)) ∧ g1 = kmix (kT σ f1) (kBF gF a aT aC (kA σ 21 kq) hh (kA σ 0 0) t k)) := by
  refine xMet.of h0 (by decide +kernel) rfl ?_
  intro p e s m args below meth c hC hr hnm
  refine x_iconst hC dX21_isSafe_0 (q := 1) rfl (v := (0)) (by decide) ?_
  refine x_istore_n hC dX21_isSafe_1 (q := 2) rfl rfl ?_
  refine x_loop (S := (fun i : Nat × aEnv => ((0 : Nat), (0 : Nat), kmix (kT σ i.2) (kBF gF a aT aC (kA σ 21 kq) hh (kA σ 0 0) t k), ([some (.ref a), some (.int (nI i.1)), none, none] : xL), ([] : List Value)))) (Inv := fun i => i.1 ≤ kA σ 25 kq ∧ ∀ q, q < i.1 → kSfP F σ kq hh t k q) (μ := fun i => kA σ 25 kq - i.1) ?_ (0, f) ⟨Nat.zero_le _, fun q h => absurd h (Nat.not_lt_zero q)⟩
  intro ⟨p1, f2⟩ hi ih
  dsimp only at hi ih ⊢
  have hr6 := hw.2.2.2.1 kq hq
  refine x_iload_n hC dX21_isSafe_2 (q := 3) rfl rfl ?_
  refine x_aloadr_n hC dX21_isSafe_3 (q := 4) rfl rfl ?_
  refine x_get hC xf_X21_25_18 dX21_isSafe_4 (q := 7) rfl (n := (55, 0)) rfl rfl ?_
  refine x_get hC xf_X21_55_6 dX21_isSafe_7 (q := 10) rfl (n := (21, kq)) (kg_21 (σ := (kT σ f2)) kq hq) rfl ?_
  refine x_icmp_ge hC dX21_isSafe_10 (q := 13) rfl (tgt := 101) rfl (fun h10 => ?_) (fun h10 => ?_)
  · have hp3 : kA σ 25 kq ≤ p1 := (nI_leI (by omega) (by omega)).mp h10
    refine x_iconst hC dX21_isSafe_101 (q := 102) rfl (v := (1)) (by decide) ?_
    exact x_zret hC hr rfl dX21_isSafe_102 (Nat.le_of_ble_eq_true rfl) (Nat.le_of_ble_eq_true rfl) ⟨f2, Or.inl ⟨fun q hq => hi.2 q (by omega), rfl⟩, rfl⟩
  have hp2 : p1 < kA σ 25 kq := Nat.lt_of_not_le (fun q => h10 (nI_le q (by omega)))
  refine x_aloadr_n hC dX21_isSafe_13 (q := 14) rfl rfl ?_
  refine x_get hC xf_X21_25_18 dX21_isSafe_14 (q := 17) rfl (n := (55, 0)) rfl rfl ?_
  refine x_get hC xf_X21_72_6 dX21_isSafe_17 (q := 20) rfl (n := (21, kq)) (kg_21 (σ := (kT σ f2)) kq hq) rfl ?_
  refine x_iload_n hC dX21_isSafe_20 (q := 21) rfl rfl ?_
  refine x_aald hC dX21_isSafe_21 (q := 22) rfl (n := (22, kq)) (kg_22 (σ := (kT σ f2)) kq hq) (j := p1) rfl (by omega) (by decide) rfl ?_
  refine x_astore_n hC dX21_isSafe_22 (q := 23) rfl rfl (va_rf_or _) ?_
  refine x_iload_n hC dX21_isSafe_23 (q := 24) rfl rfl ?_
  refine x_iconst hC dX21_isSafe_24 (q := 25) rfl (v := (1)) (by decide) ?_
  refine x_iadd hC dX21_isSafe_25 (q := 26) rfl ?_
  refine x_aloadr_n hC dX21_isSafe_26 (q := 27) rfl rfl ?_
  refine x_get hC xf_X21_25_18 dX21_isSafe_27 (q := 30) rfl (n := (55, 0)) rfl rfl ?_
  refine x_get hC xf_X21_55_6 dX21_isSafe_30 (q := 33) rfl (n := (21, kq)) (kg_21 (σ := (kT σ f2)) kq hq) rfl ?_
  refine x_icmp_ge hC dX21_isSafe_33 (q := 36) rfl (tgt := 50) rfl (fun h33 => ?_) (fun h33 => ?_)
  · have hnx : kNx σ kq p1 = none := if_neg (by
      have h2 : nI (kA σ 25 kq) ≤ nI (p1 + 1) := by rw [← nI_1]; exact h33
      have := (nI_leI (by omega) (by omega)).mp h2
      omega)
    refine x_null hC dX21_isSafe_50 (q := 51) rfl ?_
    refine x_astoren_n hC dX21_isSafe_51 (q := 52) rfl rfl ?_
    refine x_lveq (lv' := [some (.ref a), some (.int (nI p1)), some (va_rf ((kO (kT σ f2) 1 kq p1).map (kA (kT σ f2) 20))), some .null]) (by show [_, _, xk (some (va_rf _)), _] = _; rw [xk_rf]; rfl) ?_
    refine x_aload_n hC dX21_isSafe_52 (q := 53) rfl rfl (va_rf_or _) ?_
    refine x_ifnonnull hC dX21_isSafe_53 (q := 56) rfl (tgt := 59) rfl (fun a53 h53 => ?_) (fun h53 => ?_)
    · obtain ⟨c1, hc1⟩ := omap h53
      have hcl := hw.2.2.2.2.2 kq p1 c1 hq hc1
      have hcl8 : c1 < 8 := by have := hw.1; omega
      simp only [show kO (kT σ f2) 1 kq p1 = some c1 from hc1]
      refine x_lvle (lv' := [some (.ref a), some (.int (nI p1)), some (.ref (kA σ 20 c1)), some .null]) (by repeat' constructor) ?_
      refine x_aloadr_n hC dX21_isSafe_59 (q := 60) rfl rfl ?_
      refine x_get hC xf_X21_22_18 dX21_isSafe_60 (q := 63) rfl (n := (55, 0)) rfl rfl ?_
      refine x_aloadr_n hC dX21_isSafe_63 (q := 64) rfl rfl ?_
      refine x_get hC xf_X21_76_5 dX21_isSafe_64 (q := 67) rfl (n := (20, c1)) (kg_20 (σ := (kT σ f2)) c1 hcl) rfl ?_
      refine x_aald hC dX21_isSafe_67 (q := 68) rfl (n := (58, 0)) rfl (j := c1) rfl hcl8 (by decide) rfl ?_
      refine x_iload_n hC dX21_isSafe_68 (q := 69) rfl rfl ?_
      refine x_zald hC dX21_isSafe_69 (q := 70) rfl (n := (59, c1)) (kBF_59 hcl8) (j := p1) rfl (by omega) (by decide) ?_
      refine x_if_ne hC dX21_isSafe_70 (q := 73) rfl (tgt := 93) rfl (fun h70 => ?_) (fun h70 => ?_)
      · refine x_iconst hC dX21_isSafe_93 (q := 94) rfl (v := (0)) (by decide) ?_
        exact x_zret hC hr rfl dX21_isSafe_94 (Nat.le_of_ble_eq_true rfl) (Nat.le_of_ble_eq_true rfl) ⟨_, Or.inr ⟨⟨p1, hp2, fun hP => by first | exact absurd (hP _ hc1).1 h70 | exact absurd ((hP _ hc1).2 _ hd1) h90⟩, rfl⟩, rfl⟩
      have hk0 : k c1 p1 = 0 := h70
      have hnn := hnx
      refine x_aload_n hC dX21_isSafe_73 (q := 74) rfl rfl (Or.inl rfl) ?_
      refine x_ifnull_n hC dX21_isSafe_74 (tgt := 95) rfl ?_
      refine x_iinc hC dX21_isSafe_95 (q := 98) rfl rfl (v := nI (p1 + 1)) (nI_1 p1) ?_
      refine x_goto hC dX21_isSafe_98 (tgt := 2) rfl ?_
      have hP : kSfP F σ kq hh t k p1 := by
        first
          | exact kSf_a hno
          | exact kSf_b hc1 hk0 hnn
          | exact kSf_c hc1 hk0 hd1 hst
      refine x_lvle (lv' := [some (.ref a), some (.int (nI (p1 + 1))), none, none]) (by repeat' constructor) ?_
      exact ih (p1 + 1, _) ⟨by dsimp only; omega, fun q hq => by
        by_cases e : q = p1
        · subst e; exact hP
        · exact hi.2 q (by dsimp only at hq; omega)⟩ (by dsimp only; omega)
    have hno : kO σ 1 kq p1 = none := by
      cases hk : kO σ 1 kq p1 with
      | none => rfl
      | some w => exact absurd h53 (by rw [show kO (kT σ f2) 1 kq p1 = some w from hk]; intro q; cases q)
    refine x_goto hC dX21_isSafe_56 (tgt := 95) rfl ?_
    refine x_iinc hC dX21_isSafe_95 (q := 98) rfl rfl (v := nI (p1 + 1)) (nI_1 p1) ?_
    refine x_goto hC dX21_isSafe_98 (tgt := 2) rfl ?_
    have hP : kSfP F σ kq hh t k p1 := by
      first
        | exact kSf_a hno
        | exact kSf_b hc1 hk0 hnn
        | exact kSf_c hc1 hk0 hd1 hst
    refine x_lvle (lv' := [some (.ref a), some (.int (nI (p1 + 1))), none, none]) (by repeat' constructor) ?_
    exact ih (p1 + 1, _) ⟨by dsimp only; omega, fun q hq => by
      by_cases e : q = p1
      · subst e; exact hP
      · exact hi.2 q (by dsimp only at hq; omega)⟩ (by dsimp only; omega)
  have hp4 : p1 + 1 < kA σ 25 kq := Nat.lt_of_not_le (fun q => h33 (by rw [nI_1]; exact nI_le q (by omega)))
  have hnx : kNx σ kq p1 = kO σ 1 kq (p1 + 1) := if_pos hp4
  refine x_aloadr_n hC dX21_isSafe_36 (q := 37) rfl rfl ?_
  refine x_get hC xf_X21_25_18 dX21_isSafe_37 (q := 40) rfl (n := (55, 0)) rfl rfl ?_
  refine x_get hC xf_X21_72_6 dX21_isSafe_40 (q := 43) rfl (n := (21, kq)) (kg_21 (σ := (kT σ f2)) kq hq) rfl ?_
  refine x_iload_n hC dX21_isSafe_43 (q := 44) rfl rfl ?_
  refine x_iconst hC dX21_isSafe_44 (q := 45) rfl (v := (1)) (by decide) ?_
  refine x_iadd hC dX21_isSafe_45 (q := 46) rfl ?_
  refine x_aald hC dX21_isSafe_46 (q := 47) rfl (n := (22, kq)) (kg_22 (σ := (kT σ f2)) kq hq) (j := p1 + 1) (nI_1 p1) (by omega) (by decide) rfl ?_
  refine x_goto hC dX21_isSafe_47 (tgt := 51) rfl ?_
  refine x_astore_n hC dX21_isSafe_51 (q := 52) rfl rfl (va_rf_or _) ?_
  refine x_lveq (lv' := [some (.ref a), some (.int (nI p1)), some (va_rf ((kO (kT σ f2) 1 kq p1).map (kA (kT σ f2) 20))), some (va_rf ((kO (kT σ f2) 1 kq (p1 + 1)).map (kA (kT σ f2) 20)))]) (by show [_, _, xk (some (va_rf _)), _] = _; rw [xk_rf]; rfl) ?_
  refine x_aload_n hC dX21_isSafe_52 (q := 53) rfl rfl (va_rf_or _) ?_
  refine x_ifnonnull hC dX21_isSafe_53 (q := 56) rfl (tgt := 59) rfl (fun a53 h53 => ?_) (fun h53 => ?_)
  · obtain ⟨c1, hc1⟩ := omap h53
    have hcl := hw.2.2.2.2.2 kq p1 c1 hq hc1
    have hcl8 : c1 < 8 := by have := hw.1; omega
    simp only [show kO (kT σ f2) 1 kq p1 = some c1 from hc1]
    refine x_lvle (lv' := [some (.ref a), some (.int (nI p1)), some (.ref (kA σ 20 c1)), some (va_rf ((kO (kT σ f2) 1 kq (p1 + 1)).map (kA (kT σ f2) 20)))]) (by repeat' constructor) ?_
    refine x_aloadr_n hC dX21_isSafe_59 (q := 60) rfl rfl ?_
    refine x_get hC xf_X21_22_18 dX21_isSafe_60 (q := 63) rfl (n := (55, 0)) rfl rfl ?_
    refine x_aloadr_n hC dX21_isSafe_63 (q := 64) rfl rfl ?_
    refine x_get hC xf_X21_76_5 dX21_isSafe_64 (q := 67) rfl (n := (20, c1)) (kg_20 (σ := (kT σ f2)) c1 hcl) rfl ?_
    refine x_aald hC dX21_isSafe_67 (q := 68) rfl (n := (58, 0)) rfl (j := c1) rfl hcl8 (by decide) rfl ?_
    refine x_iload_n hC dX21_isSafe_68 (q := 69) rfl rfl ?_
    refine x_zald hC dX21_isSafe_69 (q := 70) rfl (n := (59, c1)) (kBF_59 hcl8) (j := p1) rfl (by omega) (by decide) ?_
    refine x_if_ne hC dX21_isSafe_70 (q := 73) rfl (tgt := 93) rfl (fun h70 => ?_) (fun h70 => ?_)
    · refine x_iconst hC dX21_isSafe_93 (q := 94) rfl (v := (0)) (by decide) ?_
      exact x_zret hC hr rfl dX21_isSafe_94 (Nat.le_of_ble_eq_true rfl) (Nat.le_of_ble_eq_true rfl) ⟨_, Or.inr ⟨⟨p1, hp2, fun hP => by first | exact absurd (hP _ hc1).1 h70 | exact absurd ((hP _ hc1).2 _ hd1) h90⟩, rfl⟩, rfl⟩
    have hk0 : k c1 p1 = 0 := h70
    skip
    refine x_aload_n hC dX21_isSafe_73 (q := 74) rfl rfl (va_rf_or _) ?_
    refine x_ifnull hC dX21_isSafe_74 (q := 77) rfl (tgt := 95) rfl (fun h74 => ?_) (fun a74 h74 => ?_)
    · have hnn : kNx σ kq p1 = none := by
        rw [hnx]
        cases hk : kO σ 1 kq (p1 + 1) with
        | none => rfl
        | some w => exact absurd h74 (by rw [show kO (kT σ f2) 1 kq (p1 + 1) = some w from hk]; intro q; cases q)
      refine x_iinc hC dX21_isSafe_95 (q := 98) rfl rfl (v := nI (p1 + 1)) (nI_1 p1) ?_
      refine x_goto hC dX21_isSafe_98 (tgt := 2) rfl ?_
      have hP : kSfP F σ kq hh t k p1 := by
        first
          | exact kSf_a hno
          | exact kSf_b hc1 hk0 hnn
          | exact kSf_c hc1 hk0 hd1 hst
      refine x_lvle (lv' := [some (.ref a), some (.int (nI (p1 + 1))), none, none]) (by repeat' constructor) ?_
      exact ih (p1 + 1, _) ⟨by dsimp only; omega, fun q hq => by
        by_cases e : q = p1
        · subst e; exact hP
        · exact hi.2 q (by dsimp only at hq; omega)⟩ (by dsimp only; omega)
    obtain ⟨d1, hd1⟩ := omap h74
    replace hd1 : kO σ 1 kq (p1 + 1) = some d1 := hd1
    have hdl := hw.2.2.2.2.2 kq (p1 + 1) d1 hq hd1
    simp only [show kO (kT σ f2) 1 kq (p1 + 1) = some d1 from hd1]
    rw [← hnx] at hd1
    refine x_lvle (lv' := [some (.ref a), some (.int (nI p1)), some (.ref (kA σ 20 c1)), some (.ref (kA σ 20 d1))]) (by repeat' constructor) ?_
    refine x_aloadr_n hC dX21_isSafe_77 (q := 78) rfl rfl ?_
    refine x_aloadr_n hC dX21_isSafe_78 (q := 79) rfl rfl ?_
    refine x_get hC xf_X21_76_5 dX21_isSafe_79 (q := 82) rfl (n := (20, c1)) (kg_20 (σ := (kT σ f2)) c1 hcl) rfl ?_
    refine x_aloadr_n hC dX21_isSafe_82 (q := 83) rfl rfl ?_
    refine x_get hC xf_X21_76_5 dX21_isSafe_83 (q := 86) rfl (n := (20, d1)) (kg_20 (σ := (kT σ f2)) d1 hdl) rfl ?_
    refine x_iload_n hC dX21_isSafe_86 (q := 87) rfl rfl ?_
    refine x_callV hC xv_X21_79 dX21_isSafe_87 (q := 90) rfl rfl (m_X21_doStick h0 σ gF f2 hF hw hNB hq c1 d1 p1 hcl hdl (by omega)) (nn := (55, 0)) rfl rfl rfl (Nat.le_of_ble_eq_true rfl) ⟨(Nat.le_of_ble_eq_true rfl), (Nat.le_of_ble_eq_true rfl)⟩ ⟨(Nat.le_of_ble_eq_true rfl), (Nat.le_of_ble_eq_true rfl)⟩ (fun v g1 hp => ?_)
    obtain ⟨f4, rfl, hg1⟩ := hp
    replace hg1 := hg1.symm
    subst hg1
    refine x_if_eq hC dX21_isSafe_90 (q := 93) rfl (tgt := 95) rfl (fun h90 => ?_) (fun h90 => ?_)
    · have hst := h90
      refine x_iinc hC dX21_isSafe_95 (q := 98) rfl rfl (v := nI (p1 + 1)) (nI_1 p1) ?_
      refine x_goto hC dX21_isSafe_98 (tgt := 2) rfl ?_
      have hP : kSfP F σ kq hh t k p1 := by
        first
          | exact kSf_a hno
          | exact kSf_b hc1 hk0 hnn
          | exact kSf_c hc1 hk0 hd1 hst
      refine x_lvle (lv' := [some (.ref a), some (.int (nI (p1 + 1))), none, none]) (by repeat' constructor) ?_
      exact ih (p1 + 1, _) ⟨by dsimp only; omega, fun q hq => by
        by_cases e : q = p1
        · subst e; exact hP
        · exact hi.2 q (by dsimp only at hq; omega)⟩ (by dsimp only; omega)
    refine x_iconst hC dX21_isSafe_93 (q := 94) rfl (v := (0)) (by decide) ?_
    exact x_zret hC hr rfl dX21_isSafe_94 (Nat.le_of_ble_eq_true rfl) (Nat.le_of_ble_eq_true rfl) ⟨_, Or.inr ⟨⟨p1, hp2, fun hP => by first | exact absurd (hP _ hc1).1 h70 | exact absurd ((hP _ hc1).2 _ hd1) h90⟩, rfl⟩, rfl⟩
  have hno : kO σ 1 kq p1 = none := by
    cases hk : kO σ 1 kq p1 with
    | none => rfl
    | some w => exact absurd h53 (by rw [show kO (kT σ f2) 1 kq p1 = some w from hk]; intro q; cases q)
  refine x_goto hC dX21_isSafe_56 (tgt := 95) rfl ?_
  refine x_iinc hC dX21_isSafe_95 (q := 98) rfl rfl (v := nI (p1 + 1)) (nI_1 p1) ?_
  refine x_goto hC dX21_isSafe_98 (tgt := 2) rfl ?_
  have hP : kSfP F σ kq hh t k p1 := by
    first
      | exact kSf_a hno
      | exact kSf_b hc1 hk0 hnn
      | exact kSf_c hc1 hk0 hd1 hst
  refine x_lvle (lv' := [some (.ref a), some (.int (nI (p1 + 1))), none, none]) (by repeat' constructor) ?_
  exact ih (p1 + 1, _) ⟨by dsimp only; omega, fun q hq => by
    by_cases e : q = p1
    · subst e; exact hP
    · exact hi.2 q (by dsimp only at hq; omega)⟩ (by dsimp only; omega)
