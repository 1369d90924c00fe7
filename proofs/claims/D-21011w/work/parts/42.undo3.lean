/-! undo -/
def kPop (σ : KS) : KS := kAs (kIs σ 18 0 (kI σ 18 0 + 1)) 65 0 (kA σ 65 0 - 1)
/-- the frame with the latest act taken out -/
def kUF (σ : KS) (gF : xG) : xG := fun n => if 48 ≤ n.1 ∧ n.1 ≤ 52 ∧ n.2 = 0 then kenc σ (n.1 - 18) (kA σ 65 0 - 1) else gF n
theorem kPop_sub {σ : KS} {gF : xG} {mc : Int32} (hmc : mc = iI (kI σ 18 0 + 1)) (hs : 0 < kA σ 65 0) (n : xN) (x : Nat × xE) (hx : kmix (kPop σ) (kUF σ gF) n = some x) : xu (xu (kmix σ gF) (17, 0) (some (kA σ 17 0, xAr (.object "java/lang/Object") (kA σ 75 0) (va_up (fun j => if j < kA σ 65 0 then some (kA σ 30 j) else none) (kA σ 65 0 - 1) none)))) (16, 0) (some (kA σ 16 0, xO 21 [.int mc, .ref (kA σ 17 0), .int (nI (kA σ 65 0 - 1))])) (kSw (kA σ 65 0 - 1) n) = some x := by
  subst hmc
  obtain ⟨k, i⟩ := n
  have ne : ∀ a b, ¬ (a = k ∧ b = i) → (k, i) ≠ (a, b) := fun a b h q => h ⟨(congrArg Prod.fst q).symm, (congrArg Prod.snd q).symm⟩
  cases hb : Nat.blt k 40 with
  | false =>
    rw [kmix_F _ _ (k, i) hb] at hx
    have hk : 40 ≤ k := by
      have := Nat.ble_eq_true_of_le (n := k + 1) (m := 40)
      by_cases h : 40 ≤ k
      · exact h
      · rw [show Nat.blt k 40 = Nat.ble (k + 1) 40 from rfl, this (by omega)] at hb; cases hb
    unfold kUF at hx
    by_cases h1 : 48 ≤ k ∧ k ≤ 52 ∧ i = 0
    · rw [if_pos h1] at hx
      have e : kSw (kA σ 65 0 - 1) (k, i) = (k - 18, kA σ 65 0 - 1) := by unfold kSw; rw [if_neg (by dsimp only; omega), if_pos h1]
      have ne2 : ∀ a b : Nat, a < 30 → (k - 18, kA σ 65 0 - 1) ≠ (a, b) := fun a b h q => by
        have := congrArg Prod.fst q
        dsimp only at this
        omega
      rw [e, xu_ne (ne2 _ _ (by decide)), xu_ne (ne2 _ _ (by decide)), kmix_eq _ _ _ _ (Nat.ble_eq_true_of_le (by omega))]
      exact hx
    · rw [if_neg h1] at hx
      have e : kSw (kA σ 65 0 - 1) (k, i) = (k, i) := by unfold kSw; rw [if_neg (by dsimp only; omega), if_neg h1]
      rw [e, xu_ne (ne _ _ (by omega)), xu_ne (ne _ _ (by omega)), kmix_F _ _ _ hb]
      exact hx
  | true =>
    rw [kmix_eq _ _ _ _ hb] at hx
    have hk : k < 40 := Nat.le_of_ble_eq_true hb
    have e65 : kA (kPop σ) 65 0 = kA σ 65 0 - 1 := by unfold kPop; simp [kA_kAs]
    by_cases h1 : 30 ≤ k ∧ k ≤ 34 ∧ i = kA σ 65 0 - 1
    · exfalso
      obtain ⟨h2, h3, rfl⟩ := h1
      have hl : ¬ kA σ 65 0 - 1 < kA (kPop σ) 65 0 := by omega
      have hc : k = 30 ∨ k = 31 ∨ k = 32 ∨ k = 33 ∨ k = 34 := by omega
      rcases hc with rfl | rfl | rfl | rfl | rfl
      all_goals simp [kenc, hl] at hx
    · have e : kSw (kA σ 65 0 - 1) (k, i) = (k, i) := by unfold kSw; rw [if_neg h1, if_neg (by dsimp only; omega)]
      rw [e, ← hx]
      by_cases e2 : (k, i) = (16, 0)
      · cases e2
        rw [xu_eq]
        simp [kenc, kPop, kI_kIs, kA_kIs, kO_kIs, kV_kIs, kL_kIs, kI_kAs, kA_kAs, kO_kAs, kV_kAs, kL_kAs]
      · rw [xu_ne e2]
        by_cases e3 : (k, i) = (17, 0)
        · cases e3
          rw [xu_eq]
          by_cases hp : 0 < kA σ 75 0
          · simp [kenc, kPop, kI_kIs, kA_kIs, kO_kIs, kV_kIs, kL_kIs, kI_kAs, kA_kAs, kO_kAs, kV_kAs, kL_kAs, hp]
            funext j
            unfold va_up
            by_cases hj : j = kA σ 65 0 - 1
            · simp [hj]
            · by_cases hj2 : j < kA σ 65 0 - 1
              · simp [hj, hj2, show j < kA σ 65 0 by omega]
              · simp [hj, hj2, show ¬ j < kA σ 65 0 by omega]
          · simp [kenc, kPop, kI_kIs, kA_kIs, kO_kIs, kV_kIs, kL_kIs, kI_kAs, kA_kAs, kO_kAs, kV_kAs, kL_kAs, hp] at hx
        · rw [xu_ne e3, kmix_eq _ _ _ _ hb]
          by_cases e4 : 30 ≤ k ∧ k ≤ 34
          · have hi : i ≠ kA σ 65 0 - 1 := fun q => h1 ⟨e4.1, e4.2, q⟩
            have hc : k = 30 ∨ k = 31 ∨ k = 32 ∨ k = 33 ∨ k = 34 := by omega
            by_cases hl : i < kA σ 65 0 - 1
            · have hl0 : i < kA σ 65 0 := by omega
              have hl' : i < kA (kPop σ) 65 0 := by omega
              rcases hc with rfl | rfl | rfl | rfl | rfl
              all_goals simp only [kenc, if_pos hl0, if_pos hl', hl0, hl', true_and]
              all_goals simp [kPop, kI_kIs, kA_kIs, kO_kIs, kV_kIs, kL_kIs, kI_kAs, kA_kAs, kO_kAs, kV_kAs, kL_kAs]
            · have hl' : ¬ i < kA (kPop σ) 65 0 := by omega
              exfalso
              rcases hc with rfl | rfl | rfl | rfl | rfl
              all_goals simp [kenc, hl'] at hx
          · unfold kenc
            split <;> simp [kPop, kI_kIs, kA_kIs, kO_kIs, kV_kIs, kL_kIs, kI_kAs, kA_kAs, kO_kAs, kV_kAs, kL_kAs]
            all_goals (try rfl)
            all_goals (try (simp at e2 e3))
            all_goals (try (split <;> first | rfl | (exfalso; simp_all; done) | skip))
            all_goals first | exact absurd (by decide) e4 | skip

theorem kPop_V {σ : KS} (h : KV σ) : KV (kPop σ) := by
  obtain ⟨⟨h1, h2, h3, h4, h5, h6⟩, h7⟩ := h
  refine ⟨⟨h1, h2, fun s q1 q2 => ?_, h4, h5, h6⟩, fun c q hc hq => ?_⟩
  · have := h3 s q1 q2
    have hs : s = 61 ∨ s = 62 ∨ s = 63 ∨ s = 64 ∨ s = 65 := by omega
    rcases hs with rfl | rfl | rfl | rfl | rfl
    all_goals simp [kPop, kA_kAs, kA_kIs]
    all_goals simp only [Nat.reduceAdd] at this
    all_goals omega
  · obtain ⟨pl, p1, p2⟩ := h7 c q hc hq
    refine ⟨pl, p1, ?_⟩
    simp only [kPop, kI_kAs, kI_kIs]
    rw [if_neg (fun q => absurd q.1 (by decide))]
    exact p2

set_option maxHeartbeats 4000000 in
set_option maxRecDepth 100000 in
theorem m_X2_undo {l : Launch} {s0 : State} {D : va_G} (h0 : x0 l s0 D) (σ : KS) (gF : xG) (hv : KV σ) (hKR : KR σ) (h48 : ∀ k, 48 ≤ k → k ≤ 52 → gF (k, 0) = none) (hs : 0 < kA σ 65 0) (hN : kA σ 66 (kA σ 65 0 - 1) ≤ kA σ 76 (kA σ 65 0 - 1) ∧ kA σ 76 (kA σ 65 0 - 1) < 1048576) (hk : kWok (fun j => iI (kV σ 5 (kA σ 65 0 - 1) j)) (kA σ 61 0) (kA σ 62 0)) : xMet l s0 D yX2_undo cX2_undo 1 (some .boolean) (xr 14 0 0 500) [.ref (kA σ 0 0)] (kmix σ gF) (fun r g1 => r = some (.int 1) ∧ g1 = kmix (kUn (kBack (kPop σ) (fun j => iI (kV σ 5 (kA σ 65 0 - 1) j)) (fun j => iI (kV σ 6 (kA σ 65 0 - 1) j)) (kI σ 21 (kA σ 65 0 - 1)) (kI σ 22 (kA σ 65 0 - 1))) (kA σ 66 (kA σ 65 0 - 1))) gF) := by
  have hc65 := hv.1.c65
  have hs1 : (kA σ 65 0 - 1) < kA σ 65 0 := by omega
  have hv2 : KV (kPop σ) := kPop_V hv
  refine xMet.of h0 (by decide +kernel) rfl ?_
  intro p e s m args below meth c hC hr hnm
  refine x_aloadr_n hC dX2_undo_0 (q := 1) rfl rfl ?_
  refine x_get hC xf_X2_45_1 dX2_undo_1 (q := 4) rfl (n := (0, 0)) rfl rfl ?_
  refine x_callV hC xv_X2_283 dX2_undo_4 (q := 7) rfl rfl (m_J3_isEmpty h0 _ (n := (16, 0)) rfl) (nn := (16, 0)) rfl rfl rfl (Nat.le_of_ble_eq_true rfl) ⟨(Nat.le_of_ble_eq_true rfl), (Nat.le_of_ble_eq_true rfl)⟩ ⟨(Nat.le_of_ble_eq_true rfl), (Nat.le_of_ble_eq_true rfl)⟩ (fun v g1 hp => ?_)
  rw [if_neg (fun q => by have := (nI_eq (b := 0) (by omega) (by omega)).mp q; omega)] at hp
  obtain ⟨rfl, hg1⟩ := hp
  replace hg1 := hg1.symm
  subst hg1
  refine x_if_eq hC dX2_undo_7 (q := 10) rfl (tgt := 16) rfl (fun h7 => ?_) (fun h7 => ?_)
  · refine x_aloadr_n hC dX2_undo_16 (q := 17) rfl rfl ?_
    refine x_get hC xf_X2_45_1 dX2_undo_17 (q := 20) rfl (n := (0, 0)) rfl rfl ?_
    refine x_aloadr_n hC dX2_undo_20 (q := 21) rfl rfl ?_
    refine x_get hC xf_X2_45_1 dX2_undo_21 (q := 24) rfl (n := (0, 0)) rfl rfl ?_
    refine x_callV hC xv_X2_136 dX2_undo_24 (q := 27) rfl rfl (m_J3_size h0 _ (n := (16, 0)) rfl) (nn := (16, 0)) rfl rfl rfl (Nat.le_of_ble_eq_true rfl) ⟨(Nat.le_of_ble_eq_true rfl), (Nat.le_of_ble_eq_true rfl)⟩ ⟨(Nat.le_of_ble_eq_true rfl), (Nat.le_of_ble_eq_true rfl)⟩ (fun v g1 hp => ?_)
    obtain ⟨rfl, hg1⟩ := hp
    replace hg1 := hg1.symm
    subst hg1
    refine x_iconst hC dX2_undo_27 (q := 28) rfl (v := (1)) (by decide) ?_
    refine x_isub hC dX2_undo_28 (q := 29) rfl ?_
    refine x_steq (st1 := [.int (nI (kA σ 65 0 - 1)), .ref (kA σ 16 0)]) (by rw [nI_m1 hs]; rfl) ?_
    refine x_callV hC xv_X2_258 dX2_undo_29 (q := 32) rfl rfl (m_J3_remove_L h0 _ (n := (16, 0)) (nd := (17, 0)) rfl rfl (by decide) rfl (kg_17 (by omega)) hs hc65.1 (by omega)) (nn := (16, 0)) rfl rfl rfl (Nat.le_of_ble_eq_true rfl) ⟨(Nat.le_of_ble_eq_true rfl), (Nat.le_of_ble_eq_true rfl)⟩ ⟨(Nat.le_of_ble_eq_true rfl), (Nat.le_of_ble_eq_true rfl)⟩ (fun v g1 hp => ?_)
    rw [if_pos hs1] at hp
    obtain ⟨rfl, hg1⟩ := hp
    replace hg1 := hg1.symm
    subst hg1
    refine x_perm (kSw (kA σ 65 0 - 1)) (kSw_lt _) (kSw_ge _) (fun n k _ _ h => kSw_inj _ n k h) (g' := kmix (kPop σ) (kUF σ gF)) (fun n x hx => kPop_sub (by rw [← iI_add]; rfl) hs n x hx) ?_
    refine x_castS hC q1947 rfl dX2_undo_32 (q := 35) rfl (n := (48, 0)) ((kmix_F _ _ _ rfl).trans (show kUF σ gF (48, 0) = some _ from (if_pos ⟨by decide, by decide, rfl⟩).trans (if_pos hs1))) ?_
    refine x_callV hC xv_X2_286 dX2_undo_35 (q := 38) rfl rfl (m_X23_isUndone h0 (kPop σ) (kUF σ gF) hv2 (m1 := kA σ 66 (kA σ 65 0 - 1)) (N := kA σ 76 (kA σ 65 0 - 1)) (show kUF σ gF (48, 0) = some _ from (if_pos ⟨by decide, by decide, rfl⟩).trans (if_pos hs1)) (show kUF σ gF (49, 0) = some _ from (if_pos ⟨by decide, by decide, rfl⟩).trans (if_pos hs1)) (show kUF σ gF (50, 0) = some _ from (if_pos ⟨by decide, by decide, rfl⟩).trans (if_pos hs1)) (show kUF σ gF (51, 0) = some _ from (if_pos ⟨by decide, by decide, rfl⟩).trans (if_pos hs1)) (fun hm0 => (show kUF σ gF (52, 0) = some _ from (if_pos ⟨by decide, by decide, rfl⟩).trans (if_pos ⟨hs1, by omega⟩))) hN hk (by have := hKR.2 (kA σ 65 0 - 1) hs1; exact this)) (nn := (48, 0)) ((kmix_F _ _ _ rfl).trans (show kUF σ gF (48, 0) = some _ from (if_pos ⟨by decide, by decide, rfl⟩).trans (if_pos hs1))) rfl rfl (Nat.le_of_ble_eq_true rfl) ⟨(Nat.le_of_ble_eq_true rfl), (Nat.le_of_ble_eq_true rfl)⟩ ⟨(Nat.le_of_ble_eq_true rfl), (Nat.le_of_ble_eq_true rfl)⟩ (fun v g1 hp => ?_)
    obtain ⟨rfl, hg1⟩ := hp
    replace hg1 := hg1.symm
    subst hg1
    refine x_sub (g' := kmix (kUn (kBack (kPop σ) (fun j => iI (kV σ 5 (kA σ 65 0 - 1) j)) (fun j => iI (kV σ 6 (kA σ 65 0 - 1) j)) (kI σ 21 (kA σ 65 0 - 1)) (kI σ 22 (kA σ 65 0 - 1))) (kA σ 66 (kA σ 65 0 - 1))) gF) (fun n x hx => ?_) ?_
    · cases hb : Nat.blt n.1 40 with
      | true =>
        obtain ⟨k, i⟩ := n
        rw [kmix_eq _ _ _ _ hb] at hx ⊢
        exact hx
      | false =>
        rw [kmix_F _ _ _ hb] at hx ⊢
        unfold kUF
        rw [if_neg (fun q => by
          obtain ⟨k, i⟩ := n
          obtain ⟨q1, q2, q3⟩ := q
          dsimp only at q1 q2 q3
          subst q3
          rw [h48 k q1 q2] at hx; cases hx)]
        exact hx
    refine x_iconst hC dX2_undo_38 (q := 39) rfl (v := (1)) (by decide) ?_
    exact x_zret hC hr rfl dX2_undo_39 (Nat.le_of_ble_eq_true rfl) (Nat.le_of_ble_eq_true rfl) ⟨rfl, rfl⟩
  · exact absurd rfl h7
