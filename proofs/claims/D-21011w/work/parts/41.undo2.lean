/-! undo: the rows -/
theorem k60_sub {σ : KS} {gF : xG} {m : Nat} (h : m ≤ kA σ 63 0 ∨ m ≤ kA σ 60 0) (n : xN) (x : Nat × xE) (hx : kmix (kAs σ 60 0 m) gF n = some x) : kmix σ gF n = some x := by
  obtain ⟨k, i⟩ := n
  cases hb : Nat.blt k 40 with
  | false => rw [kmix_F _ _ (k, i) hb] at hx ⊢; exact hx
  | true =>
    rw [kmix_eq _ _ _ _ hb] at hx ⊢
    rw [← hx]
    by_cases e4 : k = 12
    · subst e4
      simp only [kenc] at hx ⊢
      simp [kI_kIs, kA_kIs, kO_kIs, kV_kIs, kL_kIs, kI_kAs, kA_kAs, kO_kAs, kV_kAs, kL_kAs] at hx ⊢
      by_cases c1 : i < kA σ 63 0 ∨ i < m
      · have c2 : i < kA σ 63 0 ∨ i < kA σ 60 0 := by omega
        rw [if_pos c1, if_pos c2]
      · exact absurd hx.1 c1
    · unfold kenc
      split <;> simp [kI_kIs, kA_kIs, kO_kIs, kV_kIs, kL_kIs, kI_kAs, kA_kAs, kO_kAs, kV_kAs, kL_kAs]
      all_goals (try rfl)
      all_goals first | exact absurd rfl e4 | skip
theorem m_told_readd {l : Launch} {s0 : State} {D : va_G} (h0 : x0 l s0 D) (σ : KS) (gF : xG) (i : Nat) (hi : kA σ 63 0 = i) (h6 : i < kA σ 60 0) (hc : i < kA σ 73 0 ∧ kA σ 73 0 < 1048576) : xMet l s0 D yJ3_add cJ3_add 2 (some .boolean) (xr 9 0 0 330) [.ref (kA σ 10 0), .ref (kA σ 12 i)] (kmix σ gF) (fun r g1 => r = some (.int 1) ∧ g1 = kmix (kAs (kIs σ 16 0 (kI σ 16 0 + 1)) 63 0 (i + 1)) gF) := by
  refine (m_J3_add_A h0 (kmix σ gF) (n := (10, 0)) (nd := (11, 0)) (n2 := (12, i)) rfl rfl rfl (by decide) (by intro q; cases q) rfl (kg_11 (by omega)) (kg_12 i (Or.inr h6)) q2199 (by omega) (by omega)).sub (fun r g1 hpost => ⟨_, ?_, hpost.1, rfl⟩)
  rw [hpost.2]
  intro nn x hx
  obtain ⟨k, t⟩ := nn
  cases hb : Nat.blt k 40 with
  | false =>
    rw [kmix_F _ _ (k, t) hb] at hx
    have nb : ∀ a b, Nat.blt a 40 = true → (k, t) ≠ (a, b) := fun a b ha q => by cases q; rw [hb] at ha; cases ha
    rw [xu_ne (nb _ _ rfl), xu_ne (nb _ _ rfl), kmix_F _ _ _ hb]
    exact hx
  | true =>
    rw [kmix_eq _ _ _ _ hb] at hx
    by_cases e2 : (k, t) = (10, 0)
    · cases e2
      rw [xu_eq, ← hx]
      simp [kenc, kI_kIs, kA_kIs, kO_kIs, kV_kIs, kL_kIs, kI_kAs, kA_kAs, kO_kAs, kV_kAs, kL_kAs, ← iI_add, hi]
      try decide
    · rw [xu_ne e2]
      by_cases e3 : (k, t) = (11, 0)
      · cases e3
        rw [xu_eq, ← hx]
        simp [kenc, kI_kIs, kA_kIs, kO_kIs, kV_kIs, kL_kIs, kI_kAs, kA_kAs, kO_kAs, kV_kAs, kL_kAs, show 0 < kA σ 73 0 by omega]
        funext j
        unfold va_up
        by_cases hj : j = kA σ 63 0
        · subst hj; simp [hi]
        · rw [if_neg hj]
          by_cases hj2 : j < kA σ 63 0
          · simp [hj2, show j < i + 1 by omega]
          · simp [hj2, show ¬ j < i + 1 by omega]
      · rw [xu_ne e3, kmix_eq _ _ _ _ hb, ← hx]
        by_cases e4 : k = 12
        · subst e4
          simp only [kenc]
          simp [kI_kIs, kA_kIs, kO_kIs, kV_kIs, kL_kIs, kI_kAs, kA_kAs, kO_kAs, kV_kAs, kL_kAs]
          by_cases c1 : t < kA σ 63 0 ∨ t < kA σ 60 0
          · have c2 : t < i + 1 ∨ t < kA σ 60 0 := by omega
            rw [if_pos c1, if_pos c2]
          · have c2 : ¬ (t < i + 1 ∨ t < kA σ 60 0) := by omega
            rw [if_neg c1, if_neg c2]
        · unfold kenc
          split <;> simp [kI_kIs, kA_kIs, kO_kIs, kV_kIs, kL_kIs, kI_kAs, kA_kAs, kO_kAs, kV_kAs, kL_kAs]
          all_goals (try rfl)
          all_goals (try (simp at e2 e3))
          all_goals (try (split <;> first | rfl | (exfalso; simp_all; done) | skip))
          all_goals first | exact absurd rfl e4 | skip
/-- the state while i rows are told again -/
def kU (T : KS) (m i : Nat) : KS := kAs (kIs (kAs T 60 0 m) 16 0 (kI T 16 0 + 1 + i)) 63 0 i
theorem kU_step (T : KS) (m i : Nat) : kAs (kIs (kU T m i) 16 0 (kI (kU T m i) 16 0 + 1)) 63 0 (i + 1) = kU T m (i + 1) := by
  have e : kI (kU T m i) 16 0 + 1 = kI T 16 0 + 1 + (i + 1 : Nat) := by
    unfold kU
    simp only [kI_kAs, kI_kIs]
    simp
    omega
  rw [e]
  unfold kU kAs kIs
  refine Prod.ext ?_ (Prod.ext ?_ rfl)
  · funext f k
    dsimp only
    split <;> rfl
  · funext f k
    dsimp only
    split <;> rfl
theorem kU_63 (T : KS) (m i : Nat) : kA (kU T m i) 63 0 = i := by unfold kU; simp [kA_kAs]
theorem kU_60 (T : KS) (m i : Nat) : kA (kU T m i) 60 0 = m := by unfold kU; simp [kA_kAs, kA_kIs]
/-- what undo leaves -/
def kUn (T : KS) (m : Nat) : KS := kAs (kU T m m) 60 0 0
theorem kA_kBack (σ : KS) (w ht : Nat → Int32) (wk fu : Int) : kA (kBack σ w ht wk fu) = kA σ := by
  unfold kBack
  rw [kA_kHtN, kA_kInN, kA_kOutN]
  rfl

set_option maxHeartbeats 4000000 in
set_option maxRecDepth 100000 in
theorem m_X23_isUndone {l : Launch} {s0 : State} {D : va_G} (h0 : x0 l s0 D) (σ : KS) (gF : xG) (hv : KV σ) {a aw ah al d N m1 : Nat} {mc : Int32} {wk fu : Int} {w ht : Nat → Int32} (h48 : gF (48, 0) = some (a, xO 20 [.int (iI wk), .int (iI fu), .ref aw, .ref ah, .ref (kA σ 0 0), .ref al, .ref (kA σ 0 0)])) (h49 : gF (49, 0) = some (aw, xAi .int 40 w)) (h50 : gF (50, 0) = some (ah, xAi .int 3 ht)) (h51 : gF (51, 0) = some (al, xO 21 [.int mc, .ref d, .int (nI m1)])) (h52 : 0 < m1 → gF (52, 0) = some (d, xAr (.object "java/lang/Object") N (fun j => if j < m1 then some (kA σ 12 j) else none))) (hN : m1 ≤ N ∧ N < 1048576) (hk : kWok w (kA σ 61 0) (kA σ 62 0)) (hm : m1 ≤ kA σ 63 0) : xMet l s0 D yX23_isUndone cX23_isUndone 2 none (xr 12 0 0 450) [.ref a] (kmix σ gF) (fun r g1 => r = none ∧ g1 = kmix (kUn (kBack σ w ht wk fu) m1) gF) := by
  have hw := hv.1
  refine xMet.of h0 (by decide +kernel) rfl ?_
  intro p e s m args below meth c hC hr hnm
  refine x_aloadr_n hC dX23_isUndone_0 (q := 1) rfl rfl ?_
  refine x_callU2 hC xv_X23_41 dX23_isUndone_1 (q := 4) rfl (As := []) rfl (m_X20_isBack_act h0 σ gF hv (nn := (48, 0)) (nw := (49, 0)) (nh := (50, 0)) rfl rfl rfl h48 h49 h50 hk) (nn := (48, 0)) ((kmix_F _ _ _ rfl).trans h48) rfl rfl (Nat.le_of_ble_eq_true rfl) ⟨(Nat.le_of_ble_eq_true rfl), (Nat.le_of_ble_eq_true rfl)⟩ ⟨(Nat.le_of_ble_eq_true rfl), (Nat.le_of_ble_eq_true rfl)⟩ (fun v g1 hp => ?_)
  obtain ⟨rfl, hg1⟩ := hp
  replace hg1 := hg1.symm
  subst hg1
  refine x_geq (g' := kmix (kOn σ (kBack σ w ht wk fu)) gF) (by rw [(kOn_eq (kA_kBack σ w ht wk fu))]) ?_
  refine x_aloadr_n hC dX23_isUndone_4 (q := 5) rfl rfl ?_
  refine x_get hC xf_X23_1_20 dX23_isUndone_5 (q := 8) rfl (n := (48, 0)) ((kmix_F _ _ _ rfl).trans h48) rfl ?_
  refine x_get hC xf_X23_22_1 dX23_isUndone_8 (q := 11) rfl (n := (0, 0)) rfl rfl ?_
  refine x_sub (k60_sub (σ := (kOn σ (kBack σ w ht wk fu))) (m := m1) (Or.inl hm)) ?_
  refine x_callV hC xv_X23_44 dX23_isUndone_11 (q := 14) rfl rfl (m_told_clear h0 (kAs (kOn σ (kBack σ w ht wk fu)) 60 0 m1) gF hw.c63) (nn := (10, 0)) rfl rfl rfl (Nat.le_of_ble_eq_true rfl) ⟨(Nat.le_of_ble_eq_true rfl), (Nat.le_of_ble_eq_true rfl)⟩ ⟨(Nat.le_of_ble_eq_true rfl), (Nat.le_of_ble_eq_true rfl)⟩ (fun v g1 hp => ?_)
  obtain ⟨rfl, hg1⟩ := hp
  replace hg1 := hg1.symm
  subst hg1
  refine x_iconst hC dX23_isUndone_14 (q := 15) rfl (v := (0)) (by decide) ?_
  refine x_istore_n hC dX23_isUndone_15 (q := 16) rfl rfl ?_
  refine x_geq (g' := kmix (kU (kOn σ (kBack σ w ht wk fu)) m1 0) gF) (by unfold kU; rw [show kI (kOn σ (kBack σ w ht wk fu)) 16 0 + 1 + ((0 : Nat) : Int) = kI (kOn σ (kBack σ w ht wk fu)) 16 0 + 1 from Int.add_zero _]; rfl) ?_
  refine x_loop (S := (fun i => ((0 : Nat), (0 : Nat), kmix (kU (kOn σ (kBack σ w ht wk fu)) m1 i) gF, ([some (.ref a), some (.int (nI i))] : xL), ([] : List Value)))) (Inv := fun i => i ≤ m1) (μ := fun i => m1 - i) ?_ 0 (Nat.zero_le _)
  intro i hi ih
  dsimp only at ih ⊢
  refine x_iload_n hC dX23_isUndone_16 (q := 17) rfl rfl ?_
  refine x_aloadr_n hC dX23_isUndone_17 (q := 18) rfl rfl ?_
  refine x_get hC xf_X23_18_20 dX23_isUndone_18 (q := 21) rfl (n := (48, 0)) ((kmix_F _ _ _ rfl).trans h48) rfl ?_
  refine x_callV hC xv_X23_27 dX23_isUndone_21 (q := 24) rfl rfl (m_J3_size h0 _ (n := (51, 0)) ((kmix_F _ _ _ rfl).trans h51)) (nn := (51, 0)) ((kmix_F _ _ _ rfl).trans h51) rfl rfl (Nat.le_of_ble_eq_true rfl) ⟨(Nat.le_of_ble_eq_true rfl), (Nat.le_of_ble_eq_true rfl)⟩ ⟨(Nat.le_of_ble_eq_true rfl), (Nat.le_of_ble_eq_true rfl)⟩ (fun v g1 hp => ?_)
  obtain ⟨rfl, hg1⟩ := hp
  replace hg1 := hg1.symm
  subst hg1
  refine x_icmp_ge hC dX23_isUndone_24 (q := 27) rfl (tgt := 55) rfl (fun h24 => ?_) (fun h24 => ?_)
  · have hi2 : i = m1 := by
      have := hw.c63
      have := (nI_leI (by omega) (by omega)).mp h24
      omega
    rw [hi2]
    refine x_sub (k60_sub (m := 0) (Or.inl (Nat.zero_le _))) ?_
    exact x_vret hC hr dX23_isUndone_55 (Nat.le_of_ble_eq_true rfl) (Nat.le_of_ble_eq_true rfl) ⟨rfl, by rw [(kOn_eq (kA_kBack σ w ht wk fu))]; rfl⟩
  have hc63 := hw.c63
  have hi2 : i < m1 := Nat.lt_of_not_le (fun q => h24 (nI_le q (by omega)))
  refine x_aloadr_n hC dX23_isUndone_27 (q := 28) rfl rfl ?_
  refine x_get hC xf_X23_1_20 dX23_isUndone_28 (q := 31) rfl (n := (48, 0)) ((kmix_F _ _ _ rfl).trans h48) rfl ?_
  refine x_get hC xf_X23_22_1 dX23_isUndone_31 (q := 34) rfl (n := (0, 0)) rfl rfl ?_
  refine x_aloadr_n hC dX23_isUndone_34 (q := 35) rfl rfl ?_
  refine x_get hC xf_X23_18_20 dX23_isUndone_35 (q := 38) rfl (n := (48, 0)) ((kmix_F _ _ _ rfl).trans h48) rfl ?_
  refine x_iload_n hC dX23_isUndone_38 (q := 39) rfl rfl ?_
  refine x_callV hC xv_X23_31 dX23_isUndone_39 (q := 42) rfl rfl (m_J3_get h0 _ (n := (51, 0)) (nd := (52, 0)) ((kmix_F _ _ _ rfl).trans h51) ((kmix_F _ _ _ rfl).trans (h52 (by omega))) (j := i) rfl (sz := m1) rfl hi2 hN.1 (by omega)) (nn := (51, 0)) ((kmix_F _ _ _ rfl).trans h51) rfl rfl (Nat.le_of_ble_eq_true rfl) ⟨(Nat.le_of_ble_eq_true rfl), (Nat.le_of_ble_eq_true rfl)⟩ ⟨(Nat.le_of_ble_eq_true rfl), (Nat.le_of_ble_eq_true rfl)⟩ (fun v g1 hp => ?_)
  rw [if_pos hi2] at hp
  obtain ⟨rfl, hg1⟩ := hp
  replace hg1 := hg1.symm
  subst hg1
  refine x_castA hC q1957 (by dsimp only; decide) dX23_isUndone_42 (q := 45) rfl (n := (12, i)) rfl (kg_12 (σ := (kU (kOn σ (kBack σ w ht wk fu)) m1 i)) i (Or.inr (by rw [kU_60]; exact hi2))) ?_
  refine x_callV hC xv_X23_37 dX23_isUndone_45 (q := 48) rfl rfl (m_told_readd h0 (kU (kOn σ (kBack σ w ht wk fu)) m1 i) gF i (kU_63 _ _ _) (by rw [kU_60]; exact hi2) (show i < kA σ 73 0 ∧ kA σ 73 0 < 1048576 by omega)) (nn := (10, 0)) rfl rfl rfl (Nat.le_of_ble_eq_true rfl) ⟨(Nat.le_of_ble_eq_true rfl), (Nat.le_of_ble_eq_true rfl)⟩ ⟨(Nat.le_of_ble_eq_true rfl), (Nat.le_of_ble_eq_true rfl)⟩ (fun v g1 hp => ?_)
  obtain ⟨rfl, hg1⟩ := hp
  replace hg1 := hg1.symm
  subst hg1
  refine x_geq (g' := kmix (kU (kOn σ (kBack σ w ht wk fu)) m1 (i + 1)) gF) (by rw [kU_step]) ?_
  refine x_pop hC dX23_isUndone_48 (q := 49) rfl rfl ?_
  refine x_iinc hC dX23_isUndone_49 (q := 52) rfl rfl (v := nI (i + 1)) (nI_1 i) ?_
  refine x_goto hC dX23_isUndone_52 (tgt := 16) rfl ?_
  exact ih (i + 1) (by omega) (by omega)
