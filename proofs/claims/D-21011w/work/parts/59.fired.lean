/-! fired, odds -/
theorem kIs_self {σ : KS} {f k : Nat} {z : Int} (h : kI σ f k = z) : kIs σ f k z = σ := by
  refine KS_ext ?_ rfl rfl rfl rfl
  funext a b
  rw [kI_kIs]
  by_cases e : a = f ∧ b = k
  · rw [if_pos e, e.1, e.2, h]
  · rw [if_neg e]
theorem kIs_kIs (σ : KS) (f k : Nat) (y z : Int) : kIs (kIs σ f k y) f k z = kIs σ f k z := by
  refine KS_ext ?_ rfl rfl rfl rfl
  funext a b
  rw [kI_kIs, kI_kIs, kI_kIs]
  split <;> rfl
theorem kUc_kT {σ τ : KS} (h : kUc σ τ) (f : aEnv) : kUc (kT σ f) (kT τ f) := by
  refine ⟨h.1, h.2.1, h.2.2.1, h.2.2.2.1, ?_⟩
  funext a j
  show (if a = 0 then f j else kL τ a j) = (if a = 0 then f j else kL σ a j)
  rw [h.2.2.2.2]
/-- thoughts leave all as it was -/
theorem kBack_t {σ τ : KS} (hw : KW σ) (hp : KPl σ) (hn : KNb σ) (h4 : kI σ 4 0 = 0) (hu : kUc σ τ) (hp1 : KPl τ) (f : aEnv) : kBack (kIs (kT (kOn σ τ) f) 4 0 0) (kWf σ (kA σ 61 0)) (kHf σ (kA σ 62 0)) (kI σ 3 0) (kI σ 7 0) = kT (kIs σ 5 0 (kI τ 5 0)) f := by
  rw [kOn_eq hu.1]
  have h := kBack_eq (σ := kT σ f) (τ := kIs (kT τ f) 4 0 0) ((kUc_kT hu f).trans (kUc.is _ _ (Or.inr (Or.inl ⟨rfl, rfl⟩)))) hw hp (KPl_is (σ := kT τ f) hp1 (by decide) _ _) hn
  refine Eq.trans h ?_
  rw [kIs_self (σ := kT σ f) (f := 4) (k := 0) (by rw [kI_kIs, if_pos ⟨rfl, rfl⟩]; exact h4), kI_kIs, if_neg (fun q => absurd q.1 (by decide))]
  rfl
/-- thoughts go on -/
theorem kBack_g {σ τ : KS} (hw : KW σ) (hp : KPl σ) (hn : KNb σ) (hu : kUc σ τ) (hp1 : KPl τ) (h4 : kI τ 4 0 = 1) (f : aEnv) : kBack (kT τ f) (kWf σ (kA σ 61 0)) (kHf σ (kA σ 62 0)) (kI σ 3 0) (kI σ 7 0) = kT (kIs (kIs σ 4 0 1) 5 0 (kI τ 5 0)) f := by
  have h := kBack_eq (σ := kT σ f) (τ := kT τ f) (kUc_kT hu f) hw hp hp1 hn
  refine Eq.trans h ?_
  rw [show kI (kT τ f) 4 0 = 1 from h4]
  rfl
/-- the kiln is fired in the week behind k weeks -/
def kFb (F : Nat → Option (aEnv → Int64)) (σ : KS) (kq k : Nat) : Prop := bt (iI (kI (kGs F σ (k + 1)) 5 0)) kq = true
theorem kGs_4 (F : Nat → Option (aEnv → Int64)) (σ : KS) (z : Int) (n : Nat) : kEy (kGs F (kIs σ 4 0 z) n) (kGs F σ n) ∧ (0 < n → kI (kGs F (kIs σ 4 0 z) n) 5 0 = kI (kGs F σ n) 5 0) := kGs_E (kEy_is σ rfl 0 z) n
def kFnd (F : Nat → Option (aEnv → Int64)) (σ : KS) (kq k : Nat) (x : Int32) : Prop := (x = -1 ∧ ∀ j, j < k → ¬ kFb F σ kq j) ∨ ∃ j, j < k ∧ x = nI j ∧ kFb F σ kq j ∧ ∀ i, i < j → ¬ kFb F σ kq i

set_option maxHeartbeats 4000000 in
set_option maxRecDepth 100000 in
theorem m_X2_fired {l : Launch} {s0 : State} {D : va_G} (h0 : x0 l s0 D) (σ : KS) (gF : xG) (f : aEnv) {F : Nat → Option (aEnv → Int64)} {d0 : Nat} (hG : KSt gF F d0 σ) (hFo : KFo s0 gF d0) (hwk : 0 ≤ kI σ 3 0 ∧ kI σ 3 0 ≤ 900) (kq : Nat) (hq : kq < kA σ 62 0) : xMet l s0 D yX2_fired cX2_fired 5 (some .int) (xr 42 2643 16488 1950) [.ref (kA σ 0 0), .int (nI kq)] (kmix (kT σ f) gF) (fun r g1 => ∃ f1 y x, r = some (.int x) ∧ kFnd F σ kq 40 x ∧ g1 = kmix (kT (kIs σ 5 0 y) f1) gF) := by
  obtain ⟨hF, hv, hpl, hn, hKR, hT, -, h7, h4⟩ := hG
  have hw := hv.1
  have hpt : KPl (kIs σ 4 0 1) := KPl_is hpl (by decide) _ _
  have hvt : KV (kIs σ 4 0 1) := KV_kIs hv (by decide) _ _
  have hut : kUc σ (kIs σ 4 0 1) := kUc.is σ _ (Or.inr (Or.inl ⟨rfl, rfl⟩))
  refine xMet.of h0 (by decide +kernel) rfl ?_
  intro p e s m args below meth c hC hr hnm
  refine x_aloadr_n hC dX2_fired_0 (q := 1) rfl rfl ?_
  refine x_iload_n hC dX2_fired_1 (q := 2) rfl rfl ?_
  refine x_callV hC xv_X2_317 dX2_fired_2 (q := 5) rfl rfl (m_X2_kilnOf h0 (kT σ f) gF hw kq hq) (nn := (0, 0)) rfl rfl rfl (Nat.le_of_ble_eq_true rfl) ⟨(Nat.le_of_ble_eq_true rfl), (Nat.le_of_ble_eq_true rfl)⟩ ⟨(Nat.le_of_ble_eq_true rfl), (Nat.le_of_ble_eq_true rfl)⟩ (fun v g1 hp => ?_)
  obtain ⟨rfl, hg1⟩ := hp
  replace hg1 := hg1.symm
  subst hg1
  refine x_ifnonnull_r hC dX2_fired_5 (tgt := 10) rfl ?_
  refine x_aloadr_n hC dX2_fired_10 (q := 11) rfl rfl ?_
  refine x_callV hC xv_X2_415 dX2_fired_11 (q := 14) rfl rfl (m_X2_thinks h0 (kT σ f) gF hw hFo.NS) (nn := (0, 0)) rfl rfl rfl (Nat.le_of_ble_eq_true rfl) ⟨(Nat.le_of_ble_eq_true rfl), (Nat.le_of_ble_eq_true rfl)⟩ ⟨(Nat.le_of_ble_eq_true rfl), (Nat.le_of_ble_eq_true rfl)⟩ (fun v g1 hp => ?_)
  obtain ⟨a, aw, ah, rfl, hg1⟩ := hp
  replace hg1 := hg1.symm
  subst hg1
  refine x_geq (g' := kmix (kT (kIs σ 4 0 1) f) (kSF gF a aw ah (iI (kI σ 3 0)) (iI (kI σ 7 0)) (kWf σ (kA σ 61 0)) (kHf σ (kA σ 62 0)) (kA σ 0 0))) rfl ?_
  refine x_astorer_n hC dX2_fired_14 (q := 15) rfl rfl ?_
  refine x_iconst hC dX2_fired_15 (q := 16) rfl (v := (-1)) (by decide) ?_
  refine x_istore_n hC dX2_fired_16 (q := 17) rfl rfl ?_
  refine x_iconst hC dX2_fired_17 (q := 18) rfl (v := (0)) (by decide) ?_
  refine x_istore hC dX2_fired_18 (q := 20) rfl rfl ?_
  refine x_geq (g' := kmix (kT (kOn σ (kGs F (kIs σ 4 0 1) 0)) f) (kSF gF a aw ah (iI (kI σ 3 0)) (iI (kI σ 7 0)) (kWf σ (kA σ 61 0)) (kHf σ (kA σ 62 0)) (kA σ 0 0))) rfl ?_
  refine x_loop (S := (fun i : Nat × aEnv × Int32 => (3 + 66 * i.1, 48 + 411 * i.1, kmix (kT (kOn σ (kGs F (kIs σ 4 0 1) i.1)) i.2.1) (kSF gF a aw ah (iI (kI σ 3 0)) (iI (kI σ 7 0)) (kWf σ (kA σ 61 0)) (kHf σ (kA σ 62 0)) (kA σ 0 0)), ([some (.ref (kA σ 0 0)), some (.int (nI kq)), some (.ref a), some (.int i.2.2), some (.int (nI i.1))] : xL), ([] : List Value)))) (Inv := fun i => i.1 ≤ 40 ∧ kFnd F σ kq i.1 i.2.2) (μ := fun i => 40 - i.1) ?_ (0, f, -1) ⟨Nat.zero_le _, Or.inl ⟨rfl, fun j hj => absurd hj (Nat.not_lt_zero j)⟩⟩
  intro ⟨k1, f2, x1⟩ hi ih
  dsimp only at hi ih ⊢
  obtain ⟨hi1, hi2⟩ := hi
  obtain ⟨hpk, huk⟩ := kGs_P (F := F) hpt k1
  have hvk := kGs_V (F := F) hvt k1
  have hak := kA_kGs (F := F) (σ := (kIs σ 4 0 1)) k1
  have hok := kOn_eq (σ := σ) (τ := (kGs F (kIs σ 4 0 1) k1)) hak
  refine x_iload hC dX2_fired_20 (q := 22) rfl rfl ?_
  refine x_bipush hC dX2_fired_22 (q := 24) rfl (v := (40)) (by decide) ?_
  refine x_icmp_ge hC dX2_fired_24 (q := 27) rfl (tgt := 68) rfl (fun h24 => ?_) (fun h24 => ?_)
  · have hk3 : k1 = 40 := by
      have h2 : nI 40 ≤ nI k1 := h24
      have := (nI_leI (by omega) (by omega)).mp h2
      omega
    refine x_aloadr_n hC dX2_fired_68 (q := 69) rfl rfl ?_
    refine x_aloadr_n hC dX2_fired_69 (q := 70) rfl rfl ?_
    refine x_callV hC xv_X2_423 dX2_fired_70 (q := 73) rfl rfl (m_X2_thoughtOf h0 (kT (kOn σ (kGs F (kIs σ 4 0 1) k1)) f2) gF (by have := hvk; rw [← hok] at this; exact this) hFo.NS (a := a) (aw := aw) (ah := ah) (wk := kI σ 3 0) (fu := kI σ 7 0) (w := kWf σ (kA σ 61 0)) (ht := kHf σ (kA σ 62 0)) (kWok_kWf hw hpl)) (nn := (0, 0)) rfl rfl rfl (Nat.le_of_ble_eq_true rfl) ⟨(Nat.le_of_ble_eq_true rfl), (Nat.le_of_ble_eq_true rfl)⟩ ⟨(show 3 + 66 * k1 + 0 ≤ 2643 by omega), (show 48 + 411 * k1 + 0 ≤ 16488 by omega)⟩ (fun v g1 hp => ?_)
    obtain ⟨rfl, hg1⟩ := hp
    replace hg1 := hg1.symm
    subst hg1
    refine x_geq (g' := kmix (kT (kIs σ 5 0 (kI (kGs F (kIs σ 4 0 1) k1) 5 0)) f2) gF) (by rw [kBack_t hw hpl hn h4 (hut.trans huk) hpk]) ?_
    refine x_iload_n hC dX2_fired_73 (q := 74) rfl rfl ?_
    exact x_iret hC hr dX2_fired_74 (show 3 + 66 * k1 + 0 ≤ 2643 by omega) (show 48 + 411 * k1 + 0 ≤ 16488 by omega) ⟨f2, _, x1, rfl, by
      rcases hi2 with ⟨q1, q2⟩ | ⟨j, q1, q2⟩
      · first
          | exact Or.inl ⟨q1, fun j hj => q2 j (by omega)⟩
          | exact absurd q1 hx1
      · exact Or.inr ⟨j, by omega, q2⟩, rfl⟩
  have hk2 : k1 < 40 := Nat.lt_of_not_le (fun q => h24 (show nI 40 ≤ nI k1 from nI_le q (by omega)))
  refine x_aloadr_n hC dX2_fired_27 (q := 28) rfl rfl ?_
  refine x_get hC xf_X2_119_1 dX2_fired_28 (q := 31) rfl (n := (0, 0)) rfl rfl ?_
  refine x_sipush hC dX2_fired_31 (q := 34) rfl (v := (999)) (by decide) ?_
  refine x_icmp_ge hC dX2_fired_34 (q := 37) rfl (tgt := 68) rfl (fun h34 => ?_) (fun h34 => ?_)
  · exact absurd (show iI 999 ≤ iI (kI (kGs F (kIs σ 4 0 1) k1) 3 0) from h34) (by
      rw [kI3_kGs, show kI (kIs σ 4 0 1) 3 0 = kI σ 3 0 from rfl]
      exact fun w => by
        have := (iI_le ⟨by decide, by decide⟩ ⟨by omega, by omega⟩).mp w
        omega)
  refine x_iload_n hC dX2_fired_37 (q := 38) rfl rfl ?_
  refine x_iconst hC dX2_fired_38 (q := 39) rfl (v := (-1)) (by decide) ?_
  refine x_icmp_ne hC dX2_fired_39 (q := 42) rfl (tgt := 68) rfl (fun h39 => ?_) (fun h39 => ?_)
  · have hx1 := h39
    refine x_aloadr_n hC dX2_fired_68 (q := 69) rfl rfl ?_
    refine x_aloadr_n hC dX2_fired_69 (q := 70) rfl rfl ?_
    refine x_callV hC xv_X2_423 dX2_fired_70 (q := 73) rfl rfl (m_X2_thoughtOf h0 (kT (kOn σ (kGs F (kIs σ 4 0 1) k1)) f2) gF (by have := hvk; rw [← hok] at this; exact this) hFo.NS (a := a) (aw := aw) (ah := ah) (wk := kI σ 3 0) (fu := kI σ 7 0) (w := kWf σ (kA σ 61 0)) (ht := kHf σ (kA σ 62 0)) (kWok_kWf hw hpl)) (nn := (0, 0)) rfl rfl rfl (Nat.le_of_ble_eq_true rfl) ⟨(Nat.le_of_ble_eq_true rfl), (Nat.le_of_ble_eq_true rfl)⟩ ⟨(show 3 + 66 * k1 + 0 ≤ 2643 by omega), (show 48 + 411 * k1 + 0 ≤ 16488 by omega)⟩ (fun v g1 hp => ?_)
    obtain ⟨rfl, hg1⟩ := hp
    replace hg1 := hg1.symm
    subst hg1
    refine x_geq (g' := kmix (kT (kIs σ 5 0 (kI (kGs F (kIs σ 4 0 1) k1) 5 0)) f2) gF) (by rw [kBack_t hw hpl hn h4 (hut.trans huk) hpk]) ?_
    refine x_iload_n hC dX2_fired_73 (q := 74) rfl rfl ?_
    exact x_iret hC hr dX2_fired_74 (show 3 + 66 * k1 + 0 ≤ 2643 by omega) (show 48 + 411 * k1 + 0 ≤ 16488 by omega) ⟨f2, _, x1, rfl, by
      rcases hi2 with ⟨q1, q2⟩ | ⟨j, q1, q2⟩
      · first
          | exact Or.inl ⟨q1, fun j hj => q2 j (by omega)⟩
          | exact absurd q1 hx1
      · exact Or.inr ⟨j, by omega, q2⟩, rfl⟩
  refine x_aloadr_n hC dX2_fired_42 (q := 43) rfl rfl ?_
  refine x_iconst hC dX2_fired_43 (q := 44) rfl (v := (0)) (by decide) ?_
  refine x_callV hC xv_X2_264 dX2_fired_44 (q := 47) rfl rfl (m_week_t h0 (kOn σ (kGs F (kIs σ 4 0 1) k1)) (kSF gF a aw ah (iI (kI σ 3 0)) (iI (kI σ 7 0)) (kWf σ (kA σ 61 0)) (kHf σ (kA σ 62 0)) (kA σ 0 0)) f2 (F := F) (kF_on (kF_mono hF (kSF_sub hFo.NS)) (fun j => by rw [hok]; exact kO2_kGs k1 j)) (by rw [hok]; exact hvk) (by rw [hok]; exact hpk) hKR hT (xE0_SF hFo.1) h7 (kNB_SF hFo.NB) (by rw [kSF_ne (Or.inr (by decide))]; exact hFo.at 60 0 (by decide) (by decide)) (by rw [kSF_ne (Or.inr (by decide))]; exact hFo.at 53 0 (by decide) (by decide)) 0 (by rw [hok, kI4_kGs]; exact fun q => absurd q (by show ¬ iI 1 = 0; decide))) (nn := (0, 0)) rfl rfl rfl (Nat.le_of_ble_eq_true rfl) ⟨(Nat.le_of_ble_eq_true rfl), (Nat.le_of_ble_eq_true rfl)⟩ ⟨(show 3 + 66 * k1 + 66 ≤ 2643 by omega), (show 48 + 411 * k1 + 411 ≤ 16488 by omega)⟩ (fun v g1 hp => ?_)
  obtain ⟨f3, rfl, hg1⟩ := hp
  replace hg1 := hg1.symm
  subst hg1
  refine x_geq (g' := kmix (kT (kOn σ (kGs F (kIs σ 4 0 1) (k1 + 1))) f3) (kSF gF a aw ah (iI (kI σ 3 0)) (iI (kI σ 7 0)) (kWf σ (kA σ 61 0)) (kHf σ (kA σ 62 0)) (kA σ 0 0))) (by rw [hok, kOn_eq (σ := σ) (τ := (kGs F (kIs σ 4 0 1) (k1 + 1))) (kA_kGs _)]; rfl) ?_
  refine x_aloadr_n hC dX2_fired_47 (q := 48) rfl rfl ?_
  refine x_get hC xf_X2_220_1 dX2_fired_48 (q := 51) rfl (n := (0, 0)) rfl rfl ?_
  refine x_iload_n hC dX2_fired_51 (q := 52) rfl rfl ?_
  refine x_ishr hC dX2_fired_52 (q := 53) rfl ?_
  refine x_iconst hC dX2_fired_53 (q := 54) rfl (v := (1)) (by decide) ?_
  refine x_iand hC dX2_fired_54 (q := 55) rfl ?_
  refine x_iconst hC dX2_fired_55 (q := 56) rfl (v := (1)) (by decide) ?_
  refine x_icmp_ne hC dX2_fired_56 (q := 59) rfl (tgt := 62) rfl (fun h56 => ?_) (fun h56 => ?_)
  · have hbt : ¬ bt (iI (kI (kGs F (kIs σ 4 0 1) (k1 + 1)) 5 0)) kq = true := fun q => h56 ((b_at _ (by have := hw.2.1; omega)).mpr q)
    refine x_iinc hC dX2_fired_62 (q := 65) rfl rfl (v := nI (k1 + 1)) (nI_1 k1) ?_
    refine x_goto hC dX2_fired_65 (tgt := 20) rfl ?_
    have hfb : kFb F σ kq k1 ↔ bt (iI (kI (kGs F (kIs σ 4 0 1) (k1 + 1)) 5 0)) kq = true := by unfold kFb; rw [(kGs_4 F σ 1 (k1 + 1)).2 (by omega)]
    refine x_widen (k0 := 3 + 66 * (k1 + 1)) (n0 := 48 + 411 * (k1 + 1)) (by dsimp only [xr]; omega) (by dsimp only [xr]; omega) ?_
    first
      | exact ih (k1 + 1, f3, x1) ⟨by dsimp only; omega, by
          rcases hi2 with ⟨q1, q2⟩ | ⟨j, q1, q2, q3⟩
          · refine Or.inl ⟨q1, fun j hj => ?_⟩
            rcases Nat.lt_or_eq_of_le (Nat.le_of_lt_succ hj) with e | e
            · exact q2 j e
            · subst e; exact fun w => hbt (hfb.mp w)
          · exact Or.inr ⟨j, by dsimp only; omega, q2, q3⟩⟩ (by dsimp only; omega)
      | exact ih (k1 + 1, f3, nI k1) ⟨by dsimp only; omega, by
          rcases hi2 with ⟨q1, q2⟩ | ⟨j, q1, q2, q3⟩
          · exact Or.inr ⟨k1, by dsimp only; omega, rfl, hfb.mpr hbt, q2⟩
          · exact absurd h39 (by rw [q2]; intro w; have := congrArg Int32.toInt w; rw [nI_toInt (by omega)] at this; exact absurd this (by show ¬ (j : Int) = -1; omega))⟩ (by dsimp only; omega)
  have hbt : bt (iI (kI (kGs F (kIs σ 4 0 1) (k1 + 1)) 5 0)) kq = true := (b_at _ (by have := hw.2.1; omega)).mp h56
  refine x_iload hC dX2_fired_59 (q := 61) rfl rfl ?_
  refine x_istore_n hC dX2_fired_61 (q := 62) rfl rfl ?_
  refine x_iinc hC dX2_fired_62 (q := 65) rfl rfl (v := nI (k1 + 1)) (nI_1 k1) ?_
  refine x_goto hC dX2_fired_65 (tgt := 20) rfl ?_
  have hfb : kFb F σ kq k1 ↔ bt (iI (kI (kGs F (kIs σ 4 0 1) (k1 + 1)) 5 0)) kq = true := by unfold kFb; rw [(kGs_4 F σ 1 (k1 + 1)).2 (by omega)]
  refine x_widen (k0 := 3 + 66 * (k1 + 1)) (n0 := 48 + 411 * (k1 + 1)) (by dsimp only [xr]; omega) (by dsimp only [xr]; omega) ?_
  first
    | exact ih (k1 + 1, f3, x1) ⟨by dsimp only; omega, by
        rcases hi2 with ⟨q1, q2⟩ | ⟨j, q1, q2, q3⟩
        · refine Or.inl ⟨q1, fun j hj => ?_⟩
          rcases Nat.lt_or_eq_of_le (Nat.le_of_lt_succ hj) with e | e
          · exact q2 j e
          · subst e; exact fun w => hbt (hfb.mp w)
        · exact Or.inr ⟨j, by dsimp only; omega, q2, q3⟩⟩ (by dsimp only; omega)
    | exact ih (k1 + 1, f3, nI k1) ⟨by dsimp only; omega, by
        rcases hi2 with ⟨q1, q2⟩ | ⟨j, q1, q2, q3⟩
        · exact Or.inr ⟨k1, by dsimp only; omega, rfl, hfb.mpr hbt, q2⟩
        · exact absurd h39 (by rw [q2]; intro w; have := congrArg Int32.toInt w; rw [nI_toInt (by omega)] at this; exact absurd this (by show ¬ (j : Int) = -1; omega))⟩ (by dsimp only; omega)

/-- how often a child cracks: the first gusts -/
def kOdd (F : Nat → Option (aEnv → Int64)) (σ : KS) (c : Nat) : Nat → Int32
  | 0 => 0
  | j + 1 => if iI (kI (kWk F (nI j) σ) 36 c) = 0 then kOdd F σ c j else kOdd F σ c j + (if j = 0 then (100 - iI (kI σ 9 0)) * 3 else iI (kI σ 9 0))

set_option maxHeartbeats 4000000 in
set_option maxRecDepth 100000 in
theorem m_X2_odds_s {l : Launch} {s0 : State} {D : va_G} (h0 : x0 l s0 D) (σ : KS) (gF : xG) (f : aEnv) {F : Nat → Option (aEnv → Int64)} {d0 : Nat} (hG : KSt gF F d0 σ) (hFo : KFo s0 gF d0) (hwk : 0 ≤ kI σ 3 0 ∧ kI σ 3 0 ≤ 900) (ch : Nat) (hc : ch < kA σ 61 0) {kq : Nat} (hq : kq < kA σ 62 0) (hk : kO σ 0 ch 0 = some kq) (hlit : ¬ iI (kI σ 41 kq) = -1) : xMet l s0 D yX2_odds cX2_odds 6 (some .int) (xr 42 267 1692 1950) [.ref (kA σ 0 0), .int (nI ch)] (kmix (kT σ f) gF) (fun r g1 => ∃ f1 y, r = some (.int (kOdd F σ ch 4)) ∧ g1 = kmix (kT (kIs σ 5 0 y) f1) gF) := by
  obtain ⟨hF, hv, hpl, hn, hKR, hT, -, h7, h4⟩ := hG
  have hw := hv.1
  have hpt : KPl (kIs σ 4 0 1) := KPl_is hpl (by decide) _ _
  have hvt : KV (kIs σ 4 0 1) := KV_kIs hv (by decide) _ _
  have hut : kUc σ (kIs σ 4 0 1) := kUc.is σ _ (Or.inr (Or.inl ⟨rfl, rfl⟩))
  refine xMet.of h0 (by decide +kernel) rfl ?_
  intro p e s m args below meth c hC hr hnm
  refine x_aloadr_n hC dX2_odds_0 (q := 1) rfl rfl ?_
  refine x_iload_n hC dX2_odds_1 (q := 2) rfl rfl ?_
  refine x_callV hC xv_X2_313 dX2_odds_2 (q := 5) rfl rfl (m_X2_childOf h0 (kT σ f) gF hw ch hc) (nn := (0, 0)) rfl rfl rfl (Nat.le_of_ble_eq_true rfl) ⟨(Nat.le_of_ble_eq_true rfl), (Nat.le_of_ble_eq_true rfl)⟩ ⟨(Nat.le_of_ble_eq_true rfl), (Nat.le_of_ble_eq_true rfl)⟩ (fun v g1 hp => ?_)
  obtain ⟨rfl, hg1⟩ := hp
  replace hg1 := hg1.symm
  subst hg1
  refine x_astorer_n hC dX2_odds_5 (q := 6) rfl rfl ?_
  refine x_aloadr_n hC dX2_odds_6 (q := 7) rfl rfl ?_
  refine x_ifnull_r hC dX2_odds_7 (q := 10) rfl ?_
  refine x_aloadr_n hC dX2_odds_10 (q := 11) rfl rfl ?_
  refine x_get hC xf_X2_335_5 dX2_odds_11 (q := 14) rfl (n := (20, ch)) (kg_20 (σ := kT σ f) ch hc) rfl ?_
  refine x_steq (st1 := [.ref (kA σ 21 kq)]) (by show [va_rf ((kO σ 0 ch 0).map (kA σ 21))] = _; rw [hk]; rfl) ?_
  refine x_ifnull_r hC dX2_odds_14 (q := 17) rfl ?_
  refine x_aloadr_n hC dX2_odds_17 (q := 18) rfl rfl ?_
  refine x_get hC xf_X2_335_5 dX2_odds_18 (q := 21) rfl (n := (20, ch)) (kg_20 (σ := kT σ f) ch hc) rfl ?_
  refine x_steq (st1 := [.ref (kA σ 21 kq)]) (by show [va_rf ((kO σ 0 ch 0).map (kA σ 21))] = _; rw [hk]; rfl) ?_
  refine x_callV hC xv_X2_234 dX2_odds_21 (q := 24) rfl rfl (m_X9_isLit h0 (kT σ f) gF kq hq) (nn := (21, kq)) (kg_21 (σ := kT σ f) kq hq) rfl rfl (Nat.le_of_ble_eq_true rfl) ⟨(Nat.le_of_ble_eq_true rfl), (Nat.le_of_ble_eq_true rfl)⟩ ⟨(Nat.le_of_ble_eq_true rfl), (Nat.le_of_ble_eq_true rfl)⟩ (fun v g1 hp => ?_)
  obtain ⟨rfl, hg1⟩ := hp
  replace hg1 := hg1.symm
  subst hg1
  refine x_if_eq hC dX2_odds_24 (q := 27) rfl (tgt := 37) rfl (fun h24 => ?_) (fun h24 => ?_)
  · exact absurd h24 (by rw [show (if iI (kI (kT σ f) 41 kq) = -1 then (0 : Int32) else 1) = 1 from if_neg hlit]; decide)
  refine x_aloadr_n hC dX2_odds_27 (q := 28) rfl rfl ?_
  refine x_iconst hC dX2_odds_28 (q := 29) rfl (v := (1)) (by decide) ?_
  refine x_iconst hC dX2_odds_29 (q := 30) rfl (v := (1)) (by decide) ?_
  refine x_iconst hC dX2_odds_30 (q := 31) rfl (v := (1)) (by decide) ?_
  refine x_callV hC xv_X2_289 dX2_odds_31 (q := 34) rfl rfl (m_X2_isAhead h0 (kT σ f) gF 1 1 1 ⟨by decide, by decide⟩ (show iB (kI σ 3 0 + 1) from ⟨by omega, by omega⟩) (show kI σ 3 0 + 1 ≤ 999 by omega)) (nn := (0, 0)) rfl rfl rfl (Nat.le_of_ble_eq_true rfl) ⟨(Nat.le_of_ble_eq_true rfl), (Nat.le_of_ble_eq_true rfl)⟩ ⟨(Nat.le_of_ble_eq_true rfl), (Nat.le_of_ble_eq_true rfl)⟩ (fun v g1 hp => ?_)
  obtain ⟨rfl, hg1⟩ := hp
  replace hg1 := hg1.symm
  subst hg1
  refine x_if_ne hC dX2_odds_34 (q := 37) rfl (tgt := 39) rfl (fun h34 => ?_) (fun h34 => ?_)
  · refine x_aloadr_n hC dX2_odds_39 (q := 40) rfl rfl ?_
    refine x_callV hC xv_X2_415 dX2_odds_40 (q := 43) rfl rfl (m_X2_thinks h0 (kT σ f) gF hw hFo.NS) (nn := (0, 0)) rfl rfl rfl (Nat.le_of_ble_eq_true rfl) ⟨(Nat.le_of_ble_eq_true rfl), (Nat.le_of_ble_eq_true rfl)⟩ ⟨(Nat.le_of_ble_eq_true rfl), (Nat.le_of_ble_eq_true rfl)⟩ (fun v g1 hp => ?_)
    obtain ⟨a, aw, ah, rfl, hg1⟩ := hp
    replace hg1 := hg1.symm
    subst hg1
    refine x_geq (g' := kmix (kT (kIs σ 4 0 1) f) (kSF gF a aw ah (iI (kI σ 3 0)) (iI (kI σ 7 0)) (kWf σ (kA σ 61 0)) (kHf σ (kA σ 62 0)) (kA σ 0 0))) rfl ?_
    refine x_astorer_n hC dX2_odds_43 (q := 44) rfl rfl ?_
    refine x_iconst hC dX2_odds_44 (q := 45) rfl (v := (0)) (by decide) ?_
    refine x_istore hC dX2_odds_45 (q := 47) rfl rfl ?_
    refine x_iconst hC dX2_odds_47 (q := 48) rfl (v := (0)) (by decide) ?_
    refine x_istore hC dX2_odds_48 (q := 50) rfl rfl ?_
    refine x_geq (g' := kmix (kT (kIs (kIs σ 4 0 1) 5 0 (kI σ 5 0)) f) (kSF gF a aw ah (iI (kI σ 3 0)) (iI (kI σ 7 0)) (kWf σ (kA σ 61 0)) (kHf σ (kA σ 62 0)) (kA σ 0 0))) (by rw [kIs_self (σ := (kIs σ 4 0 1)) (f := 5) (k := 0) (z := kI σ 5 0) rfl]) ?_
    refine x_loop (S := (fun i : Nat × aEnv × Int => (3 + 66 * i.1, 48 + 411 * i.1, kmix (kT (kIs (kIs σ 4 0 1) 5 0 i.2.2) i.2.1) (kSF gF a aw ah (iI (kI σ 3 0)) (iI (kI σ 7 0)) (kWf σ (kA σ 61 0)) (kHf σ (kA σ 62 0)) (kA σ 0 0)), ([some (.ref (kA σ 0 0)), some (.int (nI ch)), some (.ref (kA σ 20 ch)), some (.ref a), some (.int (kOdd F σ ch i.1)), some (.int (nI i.1))] : xL), ([] : List Value)))) (Inv := fun i => i.1 ≤ 4) (μ := fun i => 4 - i.1) ?_ (0, f, kI σ 5 0) (Nat.zero_le _)
    intro ⟨k1, f2, y1⟩ hi1 ih
    dsimp only at hi1 ih ⊢
    have hps : KPl (kIs (kIs σ 4 0 1) 5 0 y1) := KPl_is hpt (by decide) _ _
    have hvs : KV (kIs (kIs σ 4 0 1) 5 0 y1) := KV_kIs hvt (by decide) _ _
    obtain ⟨hpk, huk⟩ := kWk_P (F := F) (gu := nI k1) hps
    have hvk := kWk_V (F := F) (gu := nI k1) hvs
    have hok := kOn_eq (σ := σ) (τ := (kWk F (nI k1) (kIs (kIs σ 4 0 1) 5 0 y1))) (kA_kWk _)
    have hus : kUc σ (kWk F (nI k1) (kIs (kIs σ 4 0 1) 5 0 y1)) := (hut.trans (kUc.is _ _ (Or.inr (Or.inr (Or.inl ⟨rfl, rfl⟩))))).trans huk
    have h4k : kI (kWk F (nI k1) (kIs (kIs σ 4 0 1) 5 0 y1)) 4 0 = 1 := by rw [kI4_kWk]; rfl
    have hek : kI (kWk F (nI k1) (kIs (kIs σ 4 0 1) 5 0 y1)) 36 ch = kI (kWk F (nI k1) σ) 36 ch := (kWk_E (F := F) (gu := nI k1) ((kEy_is _ rfl 0 y1).trans (kEy_is σ rfl 0 1))).1.1 36 ch rfl
    refine x_iload hC dX2_odds_50 (q := 52) rfl rfl ?_
    refine x_iconst hC dX2_odds_52 (q := 53) rfl (v := (3)) (by decide) ?_
    refine x_icmp_gt hC dX2_odds_53 (q := 56) rfl (tgt := 111) rfl (fun h53 => ?_) (fun h53 => ?_)
    · have hk3 : k1 = 4 := by
        have h2 : nI 3 < nI k1 := h53
        have := (nI_ltI (by omega) (by omega)).mp h2
        omega
      refine x_aloadr_n hC dX2_odds_111 (q := 112) rfl rfl ?_
      refine x_aloadr_n hC dX2_odds_112 (q := 113) rfl rfl ?_
      refine x_callV hC xv_X2_423 dX2_odds_113 (q := 116) rfl rfl (m_X2_thoughtOf h0 (kT (kIs (kIs σ 4 0 1) 5 0 y1) f2) gF hvs hFo.NS (a := a) (aw := aw) (ah := ah) (wk := kI σ 3 0) (fu := kI σ 7 0) (w := kWf σ (kA σ 61 0)) (ht := kHf σ (kA σ 62 0)) (kWok_kWf hw hpl)) (nn := (0, 0)) rfl rfl rfl (Nat.le_of_ble_eq_true rfl) ⟨(Nat.le_of_ble_eq_true rfl), (Nat.le_of_ble_eq_true rfl)⟩ ⟨(show 3 + 66 * k1 + 0 ≤ 267 by omega), (show 48 + 411 * k1 + 0 ≤ 1692 by omega)⟩ (fun v g1 hp => ?_)
      obtain ⟨rfl, hg1⟩ := hp
      replace hg1 := hg1.symm
      subst hg1
      refine x_geq (g' := kmix (kT (kIs σ 5 0 y1) f2) gF) (by rw [show kT (kIs (kIs σ 4 0 1) 5 0 y1) f2 = kT (kOn σ (kIs (kIs σ 4 0 1) 5 0 y1)) f2 from rfl, kBack_t hw hpl hn h4 (hut.trans (kUc.is _ _ (Or.inr (Or.inr (Or.inl ⟨rfl, rfl⟩))))) hps, kI_kIs, if_pos ⟨rfl, rfl⟩]) ?_
      refine x_iload hC dX2_odds_116 (q := 118) rfl rfl ?_
      exact x_iret hC hr dX2_odds_118 (show 3 + 66 * k1 + 0 ≤ 267 by omega) (show 48 + 411 * k1 + 0 ≤ 1692 by omega) ⟨f2, y1, by rw [hk3], rfl⟩
    have hk2 : k1 < 4 := by
      have h2 : ¬ nI 3 < nI k1 := h53
      rw [nI_ltI (by omega) (by omega)] at h2
      omega
    refine x_aloadr_n hC dX2_odds_56 (q := 57) rfl rfl ?_
    refine x_iload hC dX2_odds_57 (q := 59) rfl rfl ?_
    refine x_callV hC xv_X2_264 dX2_odds_59 (q := 62) rfl rfl (m_week_t h0 (kIs (kIs σ 4 0 1) 5 0 y1) (kSF gF a aw ah (iI (kI σ 3 0)) (iI (kI σ 7 0)) (kWf σ (kA σ 61 0)) (kHf σ (kA σ 62 0)) (kA σ 0 0)) f2 (F := F) (kF_on (kF_mono hF (kSF_sub hFo.NS)) (fun j => rfl)) hvs hps hKR hT (xE0_SF hFo.1) h7 (kNB_SF hFo.NB) (by rw [kSF_ne (Or.inr (by decide))]; exact hFo.at 60 0 (by decide) (by decide)) (by rw [kSF_ne (Or.inr (by decide))]; exact hFo.at 53 0 (by decide) (by decide)) (nI k1) (fun q => absurd q (by show ¬ iI 1 = 0; decide))) (nn := (0, 0)) rfl rfl rfl (Nat.le_of_ble_eq_true rfl) ⟨(Nat.le_of_ble_eq_true rfl), (Nat.le_of_ble_eq_true rfl)⟩ ⟨(show 3 + 66 * k1 + 66 ≤ 267 by omega), (show 48 + 411 * k1 + 411 ≤ 1692 by omega)⟩ (fun v g1 hp => ?_)
    obtain ⟨f3, rfl, hg1⟩ := hp
    replace hg1 := hg1.symm
    subst hg1
    refine x_geq (g' := kmix (kT (kOn σ (kWk F (nI k1) (kIs (kIs σ 4 0 1) 5 0 y1))) f3) (kSF gF a aw ah (iI (kI σ 3 0)) (iI (kI σ 7 0)) (kWf σ (kA σ 61 0)) (kHf σ (kA σ 62 0)) (kA σ 0 0))) (by rw [hok]) ?_
    refine x_cut 101 (fun _ : Unit => (3 + 66 * k1 + 66, 48 + 411 * k1 + 411, kmix (kT (kOn σ (kWk F (nI k1) (kIs (kIs σ 4 0 1) 5 0 y1))) f3) (kSF gF a aw ah (iI (kI σ 3 0)) (iI (kI σ 7 0)) (kWf σ (kA σ 61 0)) (kHf σ (kA σ 62 0)) (kA σ 0 0)), ([some (.ref (kA σ 0 0)), some (.int (nI ch)), some (.ref (kA σ 20 ch)), some (.ref a), some (.int (kOdd F σ ch (k1 + 1))), some (.int (nI k1))] : xL), ([] : List Value))) (fun _ => True) ?_ (fun hcut => ?_)
    · intro _ _
      dsimp only
      refine x_aloadr_n hC dX2_odds_101 (q := 102) rfl rfl ?_
      refine x_callV hC xv_X2_277 dX2_odds_102 (q := 105) rfl rfl (m_X20_isBack h0 (kT (kOn σ (kWk F (nI k1) (kIs (kIs σ 4 0 1) 5 0 y1))) f3) (kSF gF a aw ah (iI (kI σ 3 0)) (iI (kI σ 7 0)) (kWf σ (kA σ 61 0)) (kHf σ (kA σ 62 0)) (kA σ 0 0)) (by have := hvk; rw [← hok] at this; exact this) (nn := (45, 0)) (nw := (46, 0)) (nh := (47, 0)) rfl rfl rfl (a := a) (aw := aw) (ah := ah) (wk := kI σ 3 0) (fu := kI σ 7 0) (w := kWf σ (kA σ 61 0)) (ht := kHf σ (kA σ 62 0)) rfl rfl rfl (kWok_kWf hw hpl)) (nn := (45, 0)) rfl rfl rfl (Nat.le_of_ble_eq_true rfl) ⟨(Nat.le_of_ble_eq_true rfl), (Nat.le_of_ble_eq_true rfl)⟩ ⟨(show 3 + 66 * k1 + 66 + 0 ≤ 267 by omega), (show 48 + 411 * k1 + 411 + 0 ≤ 1692 by omega)⟩ (fun v g1 hp => ?_)
      obtain ⟨rfl, hg1⟩ := hp
      replace hg1 := hg1.symm
      subst hg1
      refine x_geq (g' := kmix (kT (kIs (kIs σ 4 0 1) 5 0 (kI (kWk F (nI k1) (kIs (kIs σ 4 0 1) 5 0 y1)) 5 0)) f3) (kSF gF a aw ah (iI (kI σ 3 0)) (iI (kI σ 7 0)) (kWf σ (kA σ 61 0)) (kHf σ (kA σ 62 0)) (kA σ 0 0))) (by rw [hok, kBack_g hw hpl hn hus hpk h4k]) ?_
      refine x_iinc hC dX2_odds_105 (q := 108) rfl rfl (v := nI (k1 + 1)) (nI_1 k1) ?_
      refine x_goto hC dX2_odds_108 (tgt := 50) rfl ?_
      refine x_widen (k0 := 3 + 66 * (k1 + 1)) (n0 := 48 + 411 * (k1 + 1)) (by dsimp only [xr]; omega) (by dsimp only [xr]; omega) ?_
      exact ih (k1 + 1, f3, kI (kWk F (nI k1) (kIs (kIs σ 4 0 1) 5 0 y1)) 5 0) (by dsimp only; omega) (by dsimp only; omega)
    refine x_aloadr_n hC dX2_odds_62 (q := 63) rfl rfl ?_
    refine x_get hC xf_X2_373_5 dX2_odds_63 (q := 66) rfl (n := (20, ch)) (kg_20 (σ := kT (kOn σ (kWk F (nI k1) (kIs (kIs σ 4 0 1) 5 0 y1))) f3) ch hc) rfl ?_
    refine x_if_eq hC dX2_odds_66 (q := 69) rfl (tgt := 101) rfl (fun h66 => ?_) (fun h66 => ?_)
    · have hkz : kOdd F σ ch (k1 + 1) = kOdd F σ ch k1 := if_pos (by rw [← hek]; exact h66)
      refine x_widen (k0 := 3 + 66 * k1 + 66) (n0 := 48 + 411 * k1 + 411) (by dsimp only [xr]; omega) (by dsimp only [xr]; omega) ?_
      refine x_lvle (lv' := [some (.ref (kA σ 0 0)), some (.int (nI ch)), some (.ref (kA σ 20 ch)), some (.ref a), some (.int (kOdd F σ ch (k1 + 1))), some (.int (nI k1))]) (by first | (rw [hkz]; (repeat' constructor); done) | (rw [hkz, ← h9k]; (repeat' constructor); done)) ?_
      exact hcut () trivial
    have hkz : kOdd F σ ch (k1 + 1) = kOdd F σ ch k1 + (if k1 = 0 then (100 - iI (kI σ 9 0)) * 3 else iI (kI σ 9 0)) := if_neg (by rw [← hek]; exact h66)
    have h9k : kI (kOn σ (kWk F (nI k1) (kIs (kIs σ 4 0 1) 5 0 y1))) 9 0 = kI σ 9 0 := by
      show kI (kWk F (nI k1) (kIs (kIs σ 4 0 1) 5 0 y1)) 9 0 = _
      rw [show kI (kWk F (nI k1) (kIs (kIs σ 4 0 1) 5 0 y1)) 9 0 = kI (kIs (kIs σ 4 0 1) 5 0 y1) 9 0 from huk.2.1 9 0 (by unfold kMov; omega)]
      rfl
    refine x_iload hC dX2_odds_69 (q := 71) rfl rfl ?_
    refine x_iload hC dX2_odds_71 (q := 73) rfl rfl ?_
    refine x_if_ne hC dX2_odds_73 (q := 76) rfl (tgt := 91) rfl (fun h73 => ?_) (fun h73 => ?_)
    · have hk0 : ¬ k1 = 0 := fun q => h73 (by rw [q]; rfl)
      rw [if_neg hk0] at hkz
      refine x_aloadr_n hC dX2_odds_91 (q := 92) rfl rfl ?_
      refine x_get hC xf_X2_20_1 dX2_odds_92 (q := 95) rfl (n := (0, 0)) rfl rfl ?_
      refine x_get hC xf_X2_302_2 dX2_odds_95 (q := 98) rfl (n := (3, 0)) rfl rfl ?_
      refine x_iadd hC dX2_odds_98 (q := 99) rfl ?_
      refine x_istore hC dX2_odds_99 (q := 101) rfl rfl ?_
      refine x_widen (k0 := 3 + 66 * k1 + 66) (n0 := 48 + 411 * k1 + 411) (by dsimp only [xr]; omega) (by dsimp only [xr]; omega) ?_
      refine x_lvle (lv' := [some (.ref (kA σ 0 0)), some (.int (nI ch)), some (.ref (kA σ 20 ch)), some (.ref a), some (.int (kOdd F σ ch (k1 + 1))), some (.int (nI k1))]) (by first | (rw [hkz]; (repeat' constructor); done) | (rw [hkz, ← h9k]; (repeat' constructor); done)) ?_
      exact hcut () trivial
    have hk0 : k1 = 0 := nI_eq0 (by omega) h73
    rw [if_pos hk0] at hkz
    refine x_bipush hC dX2_odds_76 (q := 78) rfl (v := (100)) (by decide) ?_
    refine x_aloadr_n hC dX2_odds_78 (q := 79) rfl rfl ?_
    refine x_get hC xf_X2_20_1 dX2_odds_79 (q := 82) rfl (n := (0, 0)) rfl rfl ?_
    refine x_get hC xf_X2_302_2 dX2_odds_82 (q := 85) rfl (n := (3, 0)) rfl rfl ?_
    refine x_isub hC dX2_odds_85 (q := 86) rfl ?_
    refine x_iconst hC dX2_odds_86 (q := 87) rfl (v := (3)) (by decide) ?_
    refine x_imul hC dX2_odds_87 (q := 88) rfl ?_
    refine x_goto hC dX2_odds_88 (tgt := 98) rfl ?_
    refine x_iadd hC dX2_odds_98 (q := 99) rfl ?_
    refine x_istore hC dX2_odds_99 (q := 101) rfl rfl ?_
    refine x_widen (k0 := 3 + 66 * k1 + 66) (n0 := 48 + 411 * k1 + 411) (by dsimp only [xr]; omega) (by dsimp only [xr]; omega) ?_
    refine x_lvle (lv' := [some (.ref (kA σ 0 0)), some (.int (nI ch)), some (.ref (kA σ 20 ch)), some (.ref a), some (.int (kOdd F σ ch (k1 + 1))), some (.int (nI k1))]) (by first | (rw [hkz]; (repeat' constructor); done) | (rw [hkz, ← h9k]; (repeat' constructor); done)) ?_
    exact hcut () trivial
  · exact absurd h34 (by decide)

set_option maxHeartbeats 4000000 in
set_option maxRecDepth 100000 in
theorem m_X2_odds_n {l : Launch} {s0 : State} {D : va_G} (h0 : x0 l s0 D) (σ : KS) (gF : xG) (f : aEnv) (hw : KW σ) (ch : Nat) (hc : ch < kA σ 61 0) (hk : kO σ 0 ch 0 = none) : xMet l s0 D yX2_odds cX2_odds 6 (some .int) (xr 42 267 1692 1950) [.ref (kA σ 0 0), .int (nI ch)] (kmix (kT σ f) gF) (fun r g1 => r = some (.int (-1)) ∧ g1 = kmix (kT σ f) gF) := by
  refine xMet.of h0 (by decide +kernel) rfl ?_
  intro p e s m args below meth c hC hr hnm
  refine x_aloadr_n hC dX2_odds_0 (q := 1) rfl rfl ?_
  refine x_iload_n hC dX2_odds_1 (q := 2) rfl rfl ?_
  refine x_callV hC xv_X2_313 dX2_odds_2 (q := 5) rfl rfl (m_X2_childOf h0 (kT σ f) gF hw ch hc) (nn := (0, 0)) rfl rfl rfl (Nat.le_of_ble_eq_true rfl) ⟨(Nat.le_of_ble_eq_true rfl), (Nat.le_of_ble_eq_true rfl)⟩ ⟨(Nat.le_of_ble_eq_true rfl), (Nat.le_of_ble_eq_true rfl)⟩ (fun v g1 hp => ?_)
  obtain ⟨rfl, hg1⟩ := hp
  replace hg1 := hg1.symm
  subst hg1
  refine x_astorer_n hC dX2_odds_5 (q := 6) rfl rfl ?_
  refine x_aloadr_n hC dX2_odds_6 (q := 7) rfl rfl ?_
  refine x_ifnull_r hC dX2_odds_7 (q := 10) rfl ?_
  refine x_aloadr_n hC dX2_odds_10 (q := 11) rfl rfl ?_
  refine x_get hC xf_X2_335_5 dX2_odds_11 (q := 14) rfl (n := (20, ch)) (kg_20 (σ := kT σ f) ch hc) rfl ?_
  refine x_steq (st1 := [.null]) (by show [va_rf ((kO σ 0 ch 0).map (kA σ 21))] = _; rw [hk]; rfl) ?_
  refine x_ifnull_n hC dX2_odds_14 (tgt := 37) rfl ?_
  refine x_iconst hC dX2_odds_37 (q := 38) rfl (v := (-1)) (by decide) ?_
  exact x_iret hC hr dX2_odds_38 (Nat.le_of_ble_eq_true rfl) (Nat.le_of_ble_eq_true rfl) ⟨rfl, rfl⟩

set_option maxHeartbeats 4000000 in
set_option maxRecDepth 100000 in
theorem m_X2_odds_u {l : Launch} {s0 : State} {D : va_G} (h0 : x0 l s0 D) (σ : KS) (gF : xG) (f : aEnv) (hw : KW σ) (ch : Nat) (hc : ch < kA σ 61 0) {kq : Nat} (hq : kq < kA σ 62 0) (hk : kO σ 0 ch 0 = some kq) (hlit : iI (kI σ 41 kq) = -1) : xMet l s0 D yX2_odds cX2_odds 6 (some .int) (xr 42 267 1692 1950) [.ref (kA σ 0 0), .int (nI ch)] (kmix (kT σ f) gF) (fun r g1 => r = some (.int (-1)) ∧ g1 = kmix (kT σ f) gF) := by
  refine xMet.of h0 (by decide +kernel) rfl ?_
  intro p e s m args below meth c hC hr hnm
  refine x_aloadr_n hC dX2_odds_0 (q := 1) rfl rfl ?_
  refine x_iload_n hC dX2_odds_1 (q := 2) rfl rfl ?_
  refine x_callV hC xv_X2_313 dX2_odds_2 (q := 5) rfl rfl (m_X2_childOf h0 (kT σ f) gF hw ch hc) (nn := (0, 0)) rfl rfl rfl (Nat.le_of_ble_eq_true rfl) ⟨(Nat.le_of_ble_eq_true rfl), (Nat.le_of_ble_eq_true rfl)⟩ ⟨(Nat.le_of_ble_eq_true rfl), (Nat.le_of_ble_eq_true rfl)⟩ (fun v g1 hp => ?_)
  obtain ⟨rfl, hg1⟩ := hp
  replace hg1 := hg1.symm
  subst hg1
  refine x_astorer_n hC dX2_odds_5 (q := 6) rfl rfl ?_
  refine x_aloadr_n hC dX2_odds_6 (q := 7) rfl rfl ?_
  refine x_ifnull_r hC dX2_odds_7 (q := 10) rfl ?_
  refine x_aloadr_n hC dX2_odds_10 (q := 11) rfl rfl ?_
  refine x_get hC xf_X2_335_5 dX2_odds_11 (q := 14) rfl (n := (20, ch)) (kg_20 (σ := kT σ f) ch hc) rfl ?_
  refine x_steq (st1 := [.ref (kA σ 21 kq)]) (by show [va_rf ((kO σ 0 ch 0).map (kA σ 21))] = _; rw [hk]; rfl) ?_
  refine x_ifnull_r hC dX2_odds_14 (q := 17) rfl ?_
  refine x_aloadr_n hC dX2_odds_17 (q := 18) rfl rfl ?_
  refine x_get hC xf_X2_335_5 dX2_odds_18 (q := 21) rfl (n := (20, ch)) (kg_20 (σ := kT σ f) ch hc) rfl ?_
  refine x_steq (st1 := [.ref (kA σ 21 kq)]) (by show [va_rf ((kO σ 0 ch 0).map (kA σ 21))] = _; rw [hk]; rfl) ?_
  refine x_callV hC xv_X2_234 dX2_odds_21 (q := 24) rfl rfl (m_X9_isLit h0 (kT σ f) gF kq hq) (nn := (21, kq)) (kg_21 (σ := kT σ f) kq hq) rfl rfl (Nat.le_of_ble_eq_true rfl) ⟨(Nat.le_of_ble_eq_true rfl), (Nat.le_of_ble_eq_true rfl)⟩ ⟨(Nat.le_of_ble_eq_true rfl), (Nat.le_of_ble_eq_true rfl)⟩ (fun v g1 hp => ?_)
  obtain ⟨rfl, hg1⟩ := hp
  replace hg1 := hg1.symm
  subst hg1
  refine x_if_eq hC dX2_odds_24 (q := 27) rfl (tgt := 37) rfl (fun h24 => ?_) (fun h24 => ?_)
  · refine x_iconst hC dX2_odds_37 (q := 38) rfl (v := (-1)) (by decide) ?_
    exact x_iret hC hr dX2_odds_38 (Nat.le_of_ble_eq_true rfl) (Nat.le_of_ble_eq_true rfl) ⟨rfl, rfl⟩
  · exact absurd (if_pos hlit) h24
