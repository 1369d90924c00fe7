/-! how long the law's text is -/
theorem cW_l : (cW 20).length = 7 ∧ (cW 21).length = 6 ∧ (cW 22).length = 6 ∧ (cW 23).length = 6 ∧ (cW 24).length = 6 ∧ (cW 25).length = 0 ∧ (cW 27).length = 1 ∧ (cW 31).length = 5 ∧ (cW 32).length = 7 ∧ (cW 33).length = 7 := by decide
theorem cW_l2 : ∀ k, k < 86 → 26 ≤ k → (cW k).length ≤ 33 := by decide +kernel
theorem aTk_l (α : aA) : ∀ i, (aTk α i).length ≤ 27 * i
  | 0 => Nat.le_refl 0
  | i + 1 => by
    have h := aTk_l α i
    have h4 := @sD_len (aCl α i)
    have h5 := @sD_len (aGr α i)
    obtain ⟨l0, l1, l2, l3, l4, l5, l6, l7, l8, l9⟩ := cW_l
    simp only [aTk, List.length_append, List.length_cons, List.length_nil, l0, l1, l2]
    omega
theorem aTq_l {α : aA} (h0 : aI α 0 ≤ 6) : ∀ i, (aTq α i).length ≤ 162 + 17 * i
  | 0 => by have := aTk_l α (aI α 0); show (aTk α (aI α 0)).length ≤ _; omega
  | i + 1 => by
    have h := aTq_l h0 i
    have h4 := @sD_len (aRo α i)
    obtain ⟨l0, l1, l2, l3, l4, l5, l6, l7, l8, l9⟩ := cW_l
    simp only [aTq, List.length_append, List.length_cons, List.length_nil, l3, l4]
    omega
theorem aTf_l {α : aA} {j h b : Nat} (h1 : h < 86 ∧ 26 ≤ h) (hb : b + 4 ≤ 86 ∧ 26 ≤ b) (ht : aI α j ≤ 4) : (aTf α j h b).length ≤ 67 := by
  obtain ⟨l0, l1, l2, l3, l4, l5, l6, l7, l8, l9⟩ := cW_l
  have h2 := cW_l2 h h1.1 h1.2
  unfold aTf
  split
  · omega
  · have h4 := cW_l2 (b + (aI α j - 1)) (by omega) (by omega)
    simp only [List.length_append, List.length_nil]
    omega
theorem aTx_l {α : aA} (hok : aOk α) : (aTx α).length ≤ 600 := by
  obtain ⟨h0, h1, h2, h3, h4, h5, -⟩ := hok
  obtain ⟨l0, l1, l2, l3, l4, l5, l6, l7, l8, l9⟩ := cW_l
  have e0 := aTq_l h0 (aI α 1)
  have e1 := aTf_l (α := α) (j := 2) (h := 26) (b := 70) (by decide) (by decide) h2
  have e2 := aTf_l (α := α) (j := 3) (h := 28) (b := 74) (by decide) (by decide) h3
  have e3 := aTf_l (α := α) (j := 4) (h := 29) (b := 78) (by decide) (by decide) h4
  have e4 := aTf_l (α := α) (j := 5) (h := 30) (b := 82) (by decide) (by decide) h5
  have v1 := @sD_len (aI α 6)
  have v2 := @sD_len (aI α 7)
  have v3 := @sD_len (aI α 8)
  simp only [aTx, aT4, aT3, aT2, aT1, List.length_append, List.length_cons, List.length_nil, l7, l8, l9]
  omega
theorem sA_nil : sA [] := fun j => by simp
theorem sA_11 {c : Nat} (h : c < 128) : sA [c] := sA_1 (w := []) sA_nil h
theorem aTk_A {α : aA} (hok : aOk α) : ∀ i, i ≤ 6 → sA (aTk α i)
  | 0, _ => sA_nil
  | i + 1, hi => by
    obtain ⟨-, -, -, -, -, -, -, -, -, hc, hg, -⟩ := id hok
    exact sA_app (sA_app (sA_app (sA_app (sA_app (sA_app (sA_app (aTk_A hok i (by omega)) (cW_sA 20 (by decide))) (sA_11 (by omega))) (cW_sA 21 (by decide))) (sA_D (by have := hc i; omega))) (cW_sA 22 (by decide))) (sA_D (by have := hg i; omega))) (sA_11 (by decide))
theorem aTq_A {α : aA} (hok : aOk α) : ∀ i, i ≤ 3 → sA (aTq α i)
  | 0, _ => aTk_A hok _ hok.1
  | i + 1, hi => by
    obtain ⟨-, -, -, -, -, -, -, -, -, -, -, hr⟩ := id hok
    exact sA_app (sA_app (sA_app (sA_app (sA_app (aTq_A hok i (by omega)) (cW_sA 23 (by decide))) (sA_11 (by omega))) (cW_sA 24 (by decide))) (sA_D (by have := hr i; omega))) (sA_11 (by decide))
theorem aTf_A {α : aA} {j h b : Nat} (h1 : h < 86) (hb : b + 4 ≤ 86) (ht : aI α j ≤ 4) : sA (aTf α j h b) := by
  unfold aTf
  split
  · exact cW_sA 25 (by decide)
  · exact sA_app (sA_app (sA_app sA_nil (cW_sA h h1)) (cW_sA (b + (aI α j - 1)) (by omega))) (cW_sA 27 (by decide))
theorem aTx_A {α : aA} (hok : aOk α) : sA (aTx α) := by
  obtain ⟨h0, h1, h2, h3, h4, h5, h6, h7, h8, -⟩ := id hok
  exact sA_app (sA_app (sA_app (sA_app (sA_app (sA_app (sA_app (sA_app (sA_app (sA_app (sA_app (aTq_A hok _ h1) (aTf_A (by decide) (by decide) h2)) (aTf_A (by decide) (by decide) h3)) (aTf_A (by decide) (by decide) h4)) (aTf_A (by decide) (by decide) h5)) (cW_sA 31 (by decide))) (sA_D (by omega))) (cW_sA 32 (by decide))) (sA_D (by omega))) (cW_sA 33 (by decide))) (sA_D (by omega))) (sA_11 (by decide))

set_option maxHeartbeats 4000000 in
set_option maxRecDepth 100000 in
theorem m_X19_firstFree {l : Launch} {s0 : State} {D : va_G} (h0 : x0 l s0 D) (g : xG) {ad aa : Nat} {α : aA} {I : Nat → Int32} {V : Nat → Nat → Int32} {M : Nat → Nat → Nat → Int32} (hD : DW g ad I V M) (hA : AH g aa α) (hok : aOk α) (q : Int32) (hq6 : kWho (V 10) (V 11) q (nI 6) (aI α 0) < 0) : xMet l s0 D yX19_firstFree cX19_firstFree 4 (some .int) (xr 1 0 0 30) [.ref ad, .ref aa, .int q] g (fun r g1 => ∃ p, p ≤ 6 ∧ r = some (.int (nI p)) ∧ kWho (V 10) (V 11) q (nI p) (aI α 0) < 0 ∧ (∀ j, j < p → 0 ≤ kWho (V 10) (V 11) q (nI j) (aI α 0)) ∧ g1 = g) := by
  obtain ⟨ra, rr, hd0, -⟩ := id hD
  refine xMet.of h0 (by decide +kernel) rfl ?_
  intro zp ze zs zm za zb zf zc hC hr hnm
  refine x_iconst hC dX19_firstFree_0 (q := 1) rfl (v := (0)) (by decide) ?_
  refine x_istore_n hC dX19_firstFree_1 (q := 2) rfl rfl ?_
  refine x_loop (S := (fun x : Nat => ((0 : Nat), (0 : Nat), g, ([some (.ref ad), some (.ref aa), some (.int q), some (.int (nI x))] : xL), ([] : List Value)))) (Inv := fun x => x ≤ 6 ∧ ∀ j, j < x → 0 ≤ kWho (V 10) (V 11) q (nI j) (aI α 0)) (μ := fun x => 7 - x) ?_ 0 ⟨by decide, fun j hj => absurd hj (Nat.not_lt_zero j)⟩
  intro p hi ih
  dsimp only at hi ih ⊢
  obtain ⟨hi, hj⟩ := hi
  refine x_aloadr_n hC dX19_firstFree_2 (q := 3) rfl rfl ?_
  refine x_aloadr_n hC dX19_firstFree_3 (q := 4) rfl rfl ?_
  refine x_iload_n hC dX19_firstFree_4 (q := 5) rfl rfl ?_
  refine x_iload_n hC dX19_firstFree_5 (q := 6) rfl rfl ?_
  refine x_callV hC xv_X19_115 dX19_firstFree_6 (q := 9) rfl rfl (m_X19_who h0 g hD hA hok q (nI p)) (nn := (120, 0)) hd0 rfl rfl (Nat.le_of_ble_eq_true rfl) ⟨(Nat.le_of_ble_eq_true rfl), (Nat.le_of_ble_eq_true rfl)⟩ ⟨(Nat.le_of_ble_eq_true rfl), (Nat.le_of_ble_eq_true rfl)⟩ (fun v g1 hp => ?_)
  obtain ⟨rfl, hg1⟩ := hp
  replace hg1 := hg1.symm
  subst hg1
  refine x_if_lt hC dX19_firstFree_9 (q := 12) rfl (tgt := 18) rfl (fun h9 => ?_) (fun h9 => ?_)
  · have h9x := h9
    refine x_iload_n hC dX19_firstFree_18 (q := 19) rfl rfl ?_
    exact x_iret hC hr dX19_firstFree_19 (Nat.le_of_ble_eq_true rfl) (Nat.le_of_ble_eq_true rfl) ⟨p, hi, rfl, h9, hj, rfl⟩
  have hp6 : p < 6 := Nat.not_le.mp (fun w => by
    have e : p = 6 := by omega
    subst e
    exact h9 hq6)
  refine x_iinc hC dX19_firstFree_12 (q := 15) rfl rfl (v := nI (p + 1)) (nI_1 p) ?_
  refine x_goto hC dX19_firstFree_15 (tgt := 2) rfl ?_
  exact ih (p + 1) ⟨by (try dsimp only); omega, fun j h => by
    by_cases e : j = p
    · rw [e]; exact Int32.not_lt.mp h9
    · exact hj j (by omega)⟩ (by (try dsimp only); omega)
