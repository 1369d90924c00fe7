/-! keeps: the first act goes -/
def kShift (σ : KS) : KS := (fun f k => if f = 18 ∧ k = 0 then kI σ 18 0 + 1 else if f = 21 ∨ f = 22 ∨ f = 23 then σ.1 f (k + 1) else σ.1 f k, fun f k => if f = 65 ∧ k = 0 then kA σ 65 0 - 1 else if f = 30 ∨ f = 31 ∨ f = 32 ∨ f = 33 ∨ f = 34 ∨ f = 66 ∨ f = 76 then σ.2.1 f (k + 1) else σ.2.1 f k, σ.2.2.1, fun f k j => if f = 5 ∨ f = 6 then σ.2.2.2.1 f (k + 1) j else σ.2.2.2.1 f k j, σ.2.2.2.2)
theorem kI_kShift (σ : KS) (f k : Nat) : kI (kShift σ) f k = if f = 18 ∧ k = 0 then kI σ 18 0 + 1 else if f = 21 ∨ f = 22 ∨ f = 23 then kI σ f (k + 1) else kI σ f k := rfl
theorem kA_kShift (σ : KS) (f k : Nat) : kA (kShift σ) f k = if f = 65 ∧ k = 0 then kA σ 65 0 - 1 else if f = 30 ∨ f = 31 ∨ f = 32 ∨ f = 33 ∨ f = 34 ∨ f = 66 ∨ f = 76 then kA σ f (k + 1) else kA σ f k := rfl
theorem kV_kShift (σ : KS) (f k j : Nat) : kV (kShift σ) f k j = if f = 5 ∨ f = 6 then kV σ f (k + 1) j else kV σ f k j := rfl
theorem kO_kShift (σ : KS) : kO (kShift σ) = kO σ := rfl
theorem kL_kShift (σ : KS) : kL (kShift σ) = kL σ := rfl
theorem kA_kShift20 (σ : KS) : kA (kShift σ) 20 = kA σ 20 := by funext k; simp [kA_kShift]
theorem kA_kShift21 (σ : KS) : kA (kShift σ) 21 = kA σ 21 := by funext k; simp [kA_kShift]
theorem kA_kShift12 (σ : KS) : kA (kShift σ) 12 = kA σ 12 := by funext k; simp [kA_kShift]
def kSd (n : xN) : xN := if 30 ≤ n.1 ∧ n.1 ≤ 34 then (n.1, n.2 + 1) else n
theorem kSd_inj (n k : xN) (h : kSd n = kSd k) : n = k := by
  obtain ⟨a, b⟩ := n
  obtain ⟨c, d⟩ := k
  unfold kSd at h
  dsimp only at h
  split at h <;> split at h <;> simp only [Prod.mk.injEq] at h ⊢ <;> omega
theorem kSd_lt (n : xN) (h : n.1 < 1000) : (kSd n).1 < 1000 := by
  unfold kSd
  split
  · exact h
  · exact h
theorem kSd_ge (n : xN) (h : 1000 ≤ n.1) : kSd n = n := by
  unfold kSd
  rw [if_neg (by omega)]
theorem kShift_sub {σ : KS} {gF : xG} {mc : Int32} (hmc : mc = iI (kI σ 18 0 + 1)) (hs : 0 < kA σ 65 0) (n : xN) (x : Nat × xE) (hx : kmix (kShift σ) gF n = some x) : xu (xu (kmix σ gF) (17, 0) (some (kA σ 17 0, xAr (.object "java/lang/Object") (kA σ 75 0) (va_up (va_cpy (fun j => if j < kA σ 65 0 then some (kA σ 30 j) else none) (fun j => if j < kA σ 65 0 then some (kA σ 30 j) else none) 1 0 (kA σ 65 0 - 1)) (kA σ 65 0 - 1) none)))) (16, 0) (some (kA σ 16 0, xO 21 [.int mc, .ref (kA σ 17 0), .int (nI (kA σ 65 0 - 1))])) (kSd n) = some x := by
  subst hmc
  obtain ⟨k, i⟩ := n
  have ne : ∀ a b, ¬ (a = k ∧ b = i) → (k, i) ≠ (a, b) := fun a b h q => h ⟨(congrArg Prod.fst q).symm, (congrArg Prod.snd q).symm⟩
  cases hb : Nat.blt k 40 with
  | false =>
    rw [kmix_F _ _ (k, i) hb] at hx
    have hk : 40 ≤ k := by
      have := Nat.ble_eq_true_of_le (n := k + 1) (m := 40)
      by_cases h : 40 ≤ k
      · exact h
      · rw [show Nat.blt k 40 = Nat.ble (k + 1) 40 from rfl, this (by omega)] at hb; cases hb
    have e : kSd (k, i) = (k, i) := by unfold kSd; rw [if_neg (by dsimp only; omega)]
    rw [e, xu_ne (ne _ _ (by omega)), xu_ne (ne _ _ (by omega)), kmix_F _ _ _ hb]
    exact hx
  | true =>
    rw [kmix_eq _ _ _ _ hb] at hx
    rw [← hx]
    have hk : k < 40 := Nat.le_of_ble_eq_true hb
    by_cases h1 : 30 ≤ k ∧ k ≤ 34
    · have e : kSd (k, i) = (k, i + 1) := by unfold kSd; rw [if_pos h1]
      have ne2 : ∀ a b : Nat, a < 30 → (k, i + 1) ≠ (a, b) := fun a b h q => by
        have := congrArg Prod.fst q
        dsimp only at this
        omega
      rw [e, xu_ne (ne2 _ _ (by decide)), xu_ne (ne2 _ _ (by decide)), kmix_eq _ _ _ _ hb]
      have e65 : kA (kShift σ) 65 0 = kA σ 65 0 - 1 := by simp [kA_kShift]
      have hc : k = 30 ∨ k = 31 ∨ k = 32 ∨ k = 33 ∨ k = 34 := by omega
      by_cases hl : i + 1 < kA σ 65 0
      · have hl' : i < kA (kShift σ) 65 0 := by omega
        rcases hc with rfl | rfl | rfl | rfl | rfl
        all_goals simp only [kenc, if_pos hl, if_pos hl', hl, hl', true_and]
        all_goals simp [kI_kShift, kA_kShift, kV_kShift]
      · have hl' : ¬ i < kA (kShift σ) 65 0 := by omega
        rcases hc with rfl | rfl | rfl | rfl | rfl
        all_goals simp only [kenc, if_neg hl, if_neg hl', hl, hl', false_and, if_false]
    · have e : kSd (k, i) = (k, i) := by unfold kSd; rw [if_neg h1]
      rw [e]
      by_cases e2 : (k, i) = (16, 0)
      · cases e2
        rw [xu_eq]
        simp [kenc, kI_kShift, kA_kShift]
      · rw [xu_ne e2]
        by_cases e3 : (k, i) = (17, 0)
        · cases e3
          rw [xu_eq]
          by_cases hp : 0 < kA σ 75 0
          · simp [kenc, kA_kShift, hp]
            funext j
            unfold va_up va_cpy
            by_cases hj : j = kA σ 65 0 - 1
            · simp [hj]
            · by_cases hj2 : j < kA σ 65 0 - 1
              · simp [hj, hj2, show 1 + j < kA σ 65 0 by omega, Nat.add_comm]
                omega
              · simp [hj, hj2, show ¬ j < kA σ 65 0 by omega]
          · simp [kenc, kA_kShift, hp] at hx
        · rw [xu_ne e3, kmix_eq _ _ _ _ hb]
          unfold kenc
          split <;> simp [kA_kShift20, kA_kShift21, kA_kShift12, kI_kShift, kA_kShift, kV_kShift, kO_kShift, kL_kShift]
          all_goals (try rfl)
          all_goals (try (simp at e2 e3 h1))
          all_goals (try (split <;> first | rfl | (exfalso; simp_all; done) | skip))
/-- the acts' list is in order -/
def KAc (σ : KS) (d0 : Nat) : Prop := kA σ 65 0 ≤ 20 ∧ (kA σ 75 0 = 0 ∧ kA σ 65 0 = 0 ∧ kA σ 17 0 = d0 ∨ kCap (kA σ 75 0) ∧ kA σ 65 0 ≤ kA σ 75 0)

theorem KW.shift {σ : KS} (h : KW σ) : KW (kShift σ) := by
  obtain ⟨h1, h2, h3, h4, h5, h6⟩ := h
  refine ⟨h1, h2, fun s q1 q2 => ?_, h4, h5, h6⟩
  have := h3 s q1 q2
  have hs : s = 61 ∨ s = 62 ∨ s = 63 ∨ s = 64 ∨ s = 65 := by omega
  rcases hs with rfl | rfl | rfl | rfl | rfl
  all_goals simp [kA_kShift]
  all_goals simp only [Nat.reduceAdd] at this
  all_goals omega
theorem kAct_el {σ : KS} {gF : xG} (t : Nat) (ht : t < kA σ 65 0) : ∃ x, kmix σ gF (30, t) = some (kA σ 30 t, x) ∧ Cond.castable (xnm x) "java/lang/Object" ∈ lw_tbl := ⟨_, kg_30 t ht, q2193⟩

set_option maxHeartbeats 4000000 in
set_option maxRecDepth 100000 in
theorem m_X2_keeps_A {l : Launch} {s0 : State} {D : va_G} (h0 : x0 l s0 D) (σ : KS) (gF : xG) {d0 : Nat} (hw : KW σ) (hz : xE0 s0 gF d0) (h10 : kA σ 63 0 ≤ 10) (h48 : ∀ k, 48 ≤ k → k ≤ 52 → gF (k, 0) = none) (h54 : gF (54, 0) = none) (hs : kA σ 65 0 < 20) (hac : kA σ 75 0 = 0 ∧ kA σ 65 0 = 0 ∧ kA σ 17 0 = d0 ∨ kCap (kA σ 75 0) ∧ kA σ 65 0 ≤ kA σ 75 0) : xMet l s0 D yX2_keeps cX2_keeps 1 none (xr 21 25 340 1100) [.ref (kA σ 0 0)] (kmix σ gF) (fun r g1 => ∃ a aw ah al d da cap, r = none ∧ kCap cap ∧ kA σ 65 0 + 1 ≤ cap ∧ (kA σ 63 0 = 0 → d = d0) ∧ g1 = kmix (kPush σ a aw ah al d da cap) gF) := by
  refine xMet.of h0 (by decide +kernel) rfl ?_
  intro p e s m args below meth c hC hr hnm
  refine x_aloadr_n hC dX2_keeps_0 (q := 1) rfl rfl ?_
  refine x_get hC xf_X2_45_1 dX2_keeps_1 (q := 4) rfl (n := (0, 0)) rfl rfl ?_
  refine x_callV hC xv_X2_136 dX2_keeps_4 (q := 7) rfl rfl (m_J3_size h0 _ (n := (16, 0)) rfl) (nn := (16, 0)) rfl rfl rfl (Nat.le_of_ble_eq_true rfl) ⟨(Nat.le_of_ble_eq_true rfl), (Nat.le_of_ble_eq_true rfl)⟩ ⟨(Nat.le_of_ble_eq_true rfl), (Nat.le_of_ble_eq_true rfl)⟩ (fun v g1 hp => ?_)
  obtain ⟨rfl, hg1⟩ := hp
  replace hg1 := hg1.symm
  subst hg1
  refine x_bipush hC dX2_keeps_7 (q := 9) rfl (v := (20)) (by decide) ?_
  refine x_icmp_ne hC dX2_keeps_9 (q := 12) rfl (tgt := 21) rfl (fun h9 => ?_) (fun h9 => ?_)
  · refine x_aloadr_n hC dX2_keeps_21 (q := 22) rfl rfl ?_
    refine x_get hC xf_X2_45_1 dX2_keeps_22 (q := 25) rfl (n := (0, 0)) rfl rfl ?_
    refine x_new hC (fs := [.int 0, .int 0, .null, .null, .null, .null, .null]) (48, 0) xc_20 q1947 q1948 q117 dX2_keeps_25 (q := 28) rfl rfl (h48 48 (by decide) (by decide)) (fun j hj => by match j, hj with | 0, _ => rfl | 1, _ => rfl | 2, _ => rfl | 3, _ => rfl | 4, _ => rfl | 5, _ => rfl | 6, _ => rfl | j + 7, h => exact absurd h (by omega)) (Nat.le_of_ble_eq_true rfl) (Nat.le_of_ble_eq_true rfl) (fun a_25 => ?_)
    refine x_geq (g' := kmix σ (xu gF (48, 0) (some (a_25, xO 20 [.int 0, .int 0, .null, .null, .null, .null, .null])))) (by
      repeat rw [kmix_xuF _ _ _ _ rfl]
      all_goals first
        | rfl
        | (refine congrArg (kmix σ) ?_; funext k; simp only [xu, kAF]; (repeat' split) <;> first | rfl | simp_all)) ?_
    refine x_dup hC dX2_keeps_28 (q := 29) rfl rfl ?_
    refine x_aloadr_n hC dX2_keeps_29 (q := 30) rfl rfl ?_
    refine x_callI hC xv_X2_282 dX2_keeps_30 (q := 33) rfl rfl (m_X23_init h0 σ (xu gF (48, 0) (some (a_25, xO 20 [.int 0, .int 0, .null, .null, .null, .null, .null]))) (a := a_25) (d0 := d0) rfl (h48 49 (by decide) (by decide)) (h48 50 (by decide) (by decide)) (h48 51 (by decide) (by decide)) (h48 52 (by decide) (by decide)) hw ⟨hz.1, hz.2⟩ (show kA σ 63 0 ≤ 10 from h10)) rfl (Nat.le_of_ble_eq_true rfl) ⟨(Nat.le_of_ble_eq_true rfl), (Nat.le_of_ble_eq_true rfl)⟩ ⟨(Nat.le_of_ble_eq_true rfl), (Nat.le_of_ble_eq_true rfl)⟩ (fun v g1 hp => ?_)
    obtain ⟨aw, ah, al, d, rfl, hd, hg1⟩ := hp
    replace hg1 := hg1.symm
    subst hg1
    refine x_geq (g' := kmix σ (kAF σ gF a_25 aw ah al d (kA σ 63 0))) (by
      repeat rw [kmix_xuF _ _ _ _ rfl]
      all_goals first
        | rfl
        | (refine congrArg (kmix σ) ?_; funext k; simp only [xu, kAF]; (repeat' split) <;> first | rfl | simp_all)) ?_
    refine x_callV hC xv_X2_261 dX2_keeps_33 (q := 36) rfl rfl (m_add22 h0 _ (n := (16, 0)) (nd := (17, 0)) (nt := (54, 0)) (n2 := (48, 0)) (d0 := d0) (sz := kA σ 65 0) (cap := kA σ 75 0) (h := (fun j => if j = kA σ 65 0 then a_25 else kA σ 30 j)) (d := kA σ 17 0) (mc := iI (kI σ 18 0)) rfl rfl rfl rfl (by decide) (by decide) (by decide) (by rw [kmix_F _ _ _ rfl]; exact h54) rfl (by
      rcases hac with ⟨q1, q2, q3⟩ | ⟨q1, q2⟩
      · exact Or.inl ⟨q1, q2, q3, by rw [kmix_eq _ _ _ _ rfl]; simp only [kenc]; exact if_neg (by omega)⟩
      · refine Or.inr ⟨q1, q2, ?_⟩
        rw [kg_17 (by rcases q1 with q | q | q <;> omega)]
        rw [show (fun j => if j < kA σ 65 0 then some (kA σ 30 j) else none) = xFi (fun j => if j = kA σ 65 0 then a_25 else kA σ 30 j) (kA σ 65 0) from funext fun j => by
          unfold xFi
          by_cases hj : j < kA σ 65 0
          · rw [if_pos hj, if_pos hj]; dsimp only; rw [if_neg (by omega)]
          · rw [if_neg hj, if_neg hj]]) hs (fun t ht => by
      obtain ⟨x, e1, e2⟩ := kAct_el (gF := kAF σ gF a_25 aw ah al d (kA σ 63 0)) t ht
      exact ⟨(30, t), x, rfl, (by rw [if_neg (by omega)]; exact e1), e2⟩) ⟨hz.1, hz.2⟩ rfl q2193 (if_pos rfl).symm) (nn := (16, 0)) rfl rfl rfl (Nat.le_of_ble_eq_true rfl) ⟨(Nat.le_of_ble_eq_true rfl), (Nat.le_of_ble_eq_true rfl)⟩ ⟨(Nat.le_of_ble_eq_true rfl), (Nat.le_of_ble_eq_true rfl)⟩ (fun v g1 hp => ?_)
    obtain ⟨da, cap, rfl, hcap, hcs, hg1⟩ := hp
    replace hg1 := hg1.symm
    subst hg1
    refine x_perm (kSw (kA σ 65 0)) (kSw_lt _) (kSw_ge _) (fun n k _ _ h => kSw_inj _ n k h) (g' := kmix (kPush σ a_25 aw ah al d da cap) gF) (kPush_sub (by rw [← iI_add]; rfl) hcap h48) ?_
    refine x_pop hC dX2_keeps_36 (q := 37) rfl rfl ?_
    exact x_vret hC hr dX2_keeps_37 (Nat.le_of_ble_eq_true rfl) (Nat.le_of_ble_eq_true rfl) ⟨a_25, aw, ah, al, d, da, cap, rfl, hcap, hcs, hd, rfl⟩
  · exact absurd h9 (fun q => by have := (nI_eq (b := 20) (by omega) (by omega)).mp q; omega)

set_option maxHeartbeats 4000000 in
set_option maxRecDepth 100000 in
theorem m_X2_keeps_B {l : Launch} {s0 : State} {D : va_G} (h0 : x0 l s0 D) (σ : KS) (gF : xG) {d0 : Nat} (hw : KW σ) (hz : xE0 s0 gF d0) (h10 : kA σ 63 0 ≤ 10) (h48 : ∀ k, 48 ≤ k → k ≤ 52 → gF (k, 0) = none) (h54 : gF (54, 0) = none) (hs : kA σ 65 0 = 20) (hac : True ∧ kCap (kA σ 75 0) ∧ kA σ 65 0 ≤ kA σ 75 0) : xMet l s0 D yX2_keeps cX2_keeps 1 none (xr 21 25 340 1100) [.ref (kA σ 0 0)] (kmix σ gF) (fun r g1 => ∃ a aw ah al d da cap, r = none ∧ kCap cap ∧ kA (kShift σ) 65 0 + 1 ≤ cap ∧ (kA (kShift σ) 63 0 = 0 → d = d0) ∧ g1 = kmix (kPush (kShift σ) a aw ah al d da cap) gF) := by
  refine xMet.of h0 (by decide +kernel) rfl ?_
  intro p e s m args below meth c hC hr hnm
  refine x_aloadr_n hC dX2_keeps_0 (q := 1) rfl rfl ?_
  refine x_get hC xf_X2_45_1 dX2_keeps_1 (q := 4) rfl (n := (0, 0)) rfl rfl ?_
  refine x_callV hC xv_X2_136 dX2_keeps_4 (q := 7) rfl rfl (m_J3_size h0 _ (n := (16, 0)) rfl) (nn := (16, 0)) rfl rfl rfl (Nat.le_of_ble_eq_true rfl) ⟨(Nat.le_of_ble_eq_true rfl), (Nat.le_of_ble_eq_true rfl)⟩ ⟨(Nat.le_of_ble_eq_true rfl), (Nat.le_of_ble_eq_true rfl)⟩ (fun v g1 hp => ?_)
  obtain ⟨rfl, hg1⟩ := hp
  replace hg1 := hg1.symm
  subst hg1
  refine x_bipush hC dX2_keeps_7 (q := 9) rfl (v := (20)) (by decide) ?_
  refine x_icmp_ne hC dX2_keeps_9 (q := 12) rfl (tgt := 21) rfl (fun h9 => ?_) (fun h9 => ?_)
  · exact absurd (show nI (kA σ 65 0) = 20 by rw [hs]; rfl) h9
  refine x_aloadr_n hC dX2_keeps_12 (q := 13) rfl rfl ?_
  refine x_get hC xf_X2_45_1 dX2_keeps_13 (q := 16) rfl (n := (0, 0)) rfl rfl ?_
  refine x_iconst hC dX2_keeps_16 (q := 17) rfl (v := (0)) (by decide) ?_
  refine x_callV hC xv_X2_258 dX2_keeps_17 (q := 20) rfl rfl (m_J3_remove_F h0 _ (n := (16, 0)) (nd := (17, 0)) rfl rfl (by decide) rfl (kg_17 (by omega)) (by omega) hac.2.2 (by rcases hac.2.1 with q | q | q <;> omega) (fun t ht y hy => by
    obtain ⟨x, e1, e2⟩ := kAct_el (gF := gF) t ht
    rw [if_pos ht] at hy
    cases hy
    exact ⟨(30, t), x, rfl, (by intro q; cases q), e1, e2⟩)) (nn := (16, 0)) rfl rfl rfl (Nat.le_of_ble_eq_true rfl) ⟨(Nat.le_of_ble_eq_true rfl), (Nat.le_of_ble_eq_true rfl)⟩ ⟨(Nat.le_of_ble_eq_true rfl), (Nat.le_of_ble_eq_true rfl)⟩ (fun v g1 hp => ?_)
  obtain ⟨rfl, hg1⟩ := hp
  replace hg1 := hg1.symm
  subst hg1
  refine x_perm kSd kSd_lt kSd_ge (fun n k _ _ h => kSd_inj n k h) (g' := kmix (kShift σ) gF) (fun n x hx => ?_) ?_
  · have := kShift_sub (gF := gF) (mc := iI (kI σ 18 0) + 1) (by rw [← iI_add]; rfl) (by omega) n x hx
    exact this
  rw [if_pos (show 0 < kA σ 65 0 by omega)]
  refine x_pop hC dX2_keeps_20 (q := 21) rfl rfl ?_
  have hw2 : KW (kShift σ) := hw.shift
  have hac2 : kCap (kA (kShift σ) 75 0) ∧ kA (kShift σ) 65 0 ≤ kA (kShift σ) 75 0 ∧ kA (kShift σ) 65 0 < 20 := by simp only [kA_kShift]; simp; exact ⟨hac.2.1, by omega, by omega⟩
  refine x_aloadr_n hC dX2_keeps_21 (q := 22) rfl rfl ?_
  refine x_get hC xf_X2_45_1 dX2_keeps_22 (q := 25) rfl (n := (0, 0)) rfl rfl ?_
  refine x_new hC (fs := [.int 0, .int 0, .null, .null, .null, .null, .null]) (48, 0) xc_20 q1947 q1948 q117 dX2_keeps_25 (q := 28) rfl rfl (h48 48 (by decide) (by decide)) (fun j hj => by match j, hj with | 0, _ => rfl | 1, _ => rfl | 2, _ => rfl | 3, _ => rfl | 4, _ => rfl | 5, _ => rfl | 6, _ => rfl | j + 7, h => exact absurd h (by omega)) (Nat.le_of_ble_eq_true rfl) (Nat.le_of_ble_eq_true rfl) (fun a_25 => ?_)
  refine x_geq (g' := kmix (kShift σ) (xu gF (48, 0) (some (a_25, xO 20 [.int 0, .int 0, .null, .null, .null, .null, .null])))) (by
    repeat rw [kmix_xuF _ _ _ _ rfl]
    all_goals first
      | rfl
      | (refine congrArg (kmix (kShift σ)) ?_; funext k; simp only [xu, kAF]; (repeat' split) <;> first | rfl | simp_all)) ?_
  refine x_dup hC dX2_keeps_28 (q := 29) rfl rfl ?_
  refine x_aloadr_n hC dX2_keeps_29 (q := 30) rfl rfl ?_
  refine x_callI hC xv_X2_282 dX2_keeps_30 (q := 33) rfl rfl (m_X23_init h0 (kShift σ) (xu gF (48, 0) (some (a_25, xO 20 [.int 0, .int 0, .null, .null, .null, .null, .null]))) (a := a_25) (d0 := d0) rfl (h48 49 (by decide) (by decide)) (h48 50 (by decide) (by decide)) (h48 51 (by decide) (by decide)) (h48 52 (by decide) (by decide)) hw2 ⟨hz.1, hz.2⟩ (show kA σ 63 0 ≤ 10 from h10)) rfl (Nat.le_of_ble_eq_true rfl) ⟨(Nat.le_of_ble_eq_true rfl), (Nat.le_of_ble_eq_true rfl)⟩ ⟨(Nat.le_of_ble_eq_true rfl), (Nat.le_of_ble_eq_true rfl)⟩ (fun v g1 hp => ?_)
  obtain ⟨aw, ah, al, d, rfl, hd, hg1⟩ := hp
  replace hg1 := hg1.symm
  subst hg1
  refine x_geq (g' := kmix (kShift σ) (kAF (kShift σ) gF a_25 aw ah al d (kA (kShift σ) 63 0))) (by
    repeat rw [kmix_xuF _ _ _ _ rfl]
    all_goals first
      | rfl
      | (refine congrArg (kmix (kShift σ)) ?_; funext k; simp only [xu, kAF]; (repeat' split) <;> first | rfl | simp_all)) ?_
  refine x_callV hC xv_X2_261 dX2_keeps_33 (q := 36) rfl rfl (m_add22 h0 _ (n := (16, 0)) (nd := (17, 0)) (nt := (54, 0)) (n2 := (48, 0)) (d0 := d0) (sz := kA (kShift σ) 65 0) (cap := kA (kShift σ) 75 0) (h := (fun j => if j = kA (kShift σ) 65 0 then a_25 else kA (kShift σ) 30 j)) (d := kA (kShift σ) 17 0) (mc := iI (kI (kShift σ) 18 0)) rfl rfl rfl rfl (by decide) (by decide) (by decide) (by rw [kmix_F _ _ _ rfl]; exact h54) rfl (by
    refine Or.inr ⟨hac2.1, hac2.2.1, ?_⟩
    rw [kg_17 (by rcases hac2.1 with q | q | q <;> omega)]
    rw [show (fun j => if j < kA (kShift σ) 65 0 then some (kA (kShift σ) 30 j) else none) = xFi (fun j => if j = kA (kShift σ) 65 0 then a_25 else kA (kShift σ) 30 j) (kA (kShift σ) 65 0) from funext fun j => by
      unfold xFi
      by_cases hj : j < kA (kShift σ) 65 0
      · rw [if_pos hj, if_pos hj]; dsimp only; rw [if_neg (by omega)]
      · rw [if_neg hj, if_neg hj]]) hac2.2.2 (fun t ht => by
    obtain ⟨x, e1, e2⟩ := kAct_el (gF := kAF (kShift σ) gF a_25 aw ah al d (kA (kShift σ) 63 0)) t ht
    exact ⟨(30, t), x, rfl, (by rw [if_neg (by omega)]; exact e1), e2⟩) ⟨hz.1, hz.2⟩ rfl q2193 (if_pos rfl).symm) (nn := (16, 0)) rfl rfl rfl (Nat.le_of_ble_eq_true rfl) ⟨(Nat.le_of_ble_eq_true rfl), (Nat.le_of_ble_eq_true rfl)⟩ ⟨(Nat.le_of_ble_eq_true rfl), (Nat.le_of_ble_eq_true rfl)⟩ (fun v g1 hp => ?_)
  obtain ⟨da, cap, rfl, hcap, hcs, hg1⟩ := hp
  replace hg1 := hg1.symm
  subst hg1
  refine x_perm (kSw (kA (kShift σ) 65 0)) (kSw_lt _) (kSw_ge _) (fun n k _ _ h => kSw_inj _ n k h) (g' := kmix (kPush (kShift σ) a_25 aw ah al d da cap) gF) (kPush_sub (by rw [← iI_add]; rfl) hcap h48) ?_
  refine x_pop hC dX2_keeps_36 (q := 37) rfl rfl ?_
  exact x_vret hC hr dX2_keeps_37 (Nat.le_of_ble_eq_true rfl) (Nat.le_of_ble_eq_true rfl) ⟨a_25, aw, ah, al, d, da, cap, rfl, hcap, hcs, hd, rfl⟩
