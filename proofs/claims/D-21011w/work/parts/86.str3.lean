/-! strings of Latin-1 letters: equals -/
/-- the first letters are the same -/
def sEqs (f h : Nat → Int32) (N : Nat) : Bool := (List.range N).all fun j => decide (f j = h j)
theorem sEqs_iff {f h : Nat → Int32} {N : Nat} : sEqs f h N = true ↔ ∀ j, j < N → f j = h j := by
  simp [sEqs, List.all_eq_true]

set_option maxHeartbeats 4000000 in
set_option maxRecDepth 100000 in
theorem m_J11_equals {l : Launch} {s0 : State} {D : va_G} (h0 : x0 l s0 D) (g : xG) {n1 n2 : xN} {a1 a2 N M : Nat} {f h : Nat → Int32} (hv : g n1 = some (a1, xAi .byte N f)) (hw : g n2 = some (a2, xAi .byte M h)) (hN : N < 2 ^ 31) (hM : M < 2 ^ 31) : xMet l s0 D yJ11_equals cJ11_equals 3 (some .boolean) (xr 0 0 0 0) [.ref a1, .ref a2] g (fun r g1 => r = some (.int (if N = M ∧ sEqs f h N = true then 1 else 0)) ∧ g1 = g) := by
  refine xMet.of h0 (by decide +kernel) rfl ?_
  intro p e s m args below meth c hC hr hnm
  refine x_aloadr_n hC dJ11_equals_0 (q := 1) rfl rfl ?_
  refine x_alen hC dJ11_equals_1 (q := 2) rfl (n := n1) hv ?_
  refine x_aloadr_n hC dJ11_equals_2 (q := 3) rfl rfl ?_
  refine x_alen hC dJ11_equals_3 (q := 4) rfl (n := n2) hw ?_
  refine x_icmp_ne hC dJ11_equals_4 (q := 7) rfl (tgt := 34) rfl (fun h4 => ?_) (fun h4 => ?_)
  · have hno : ¬ (N = M ∧ sEqs f h N = true) := fun q => h4 (by rw [q.1])
    refine x_iconst hC dJ11_equals_34 (q := 35) rfl (v := (0)) (by decide) ?_
    exact x_zret hC hr rfl dJ11_equals_35 (Nat.le_of_ble_eq_true rfl) (Nat.le_of_ble_eq_true rfl) (by first | exact ⟨by rw [if_neg hno], rfl⟩ | exact ⟨by rw [if_pos hys], rfl⟩)
  have hNM : N = M := by
    have h2 : nI N = nI M := Decidable.not_not.mp (fun q => absurd h4 (by simpa using q))
    have := congrArg Int32.toInt h2
    rw [nI_toInt hN, nI_toInt hM] at this
    omega
  refine x_iconst hC dJ11_equals_7 (q := 8) rfl (v := (0)) (by decide) ?_
  refine x_istore_n hC dJ11_equals_8 (q := 9) rfl rfl ?_
  refine x_loop (S := (fun i : Nat => ((0 : Nat), (0 : Nat), g, ([some (.ref a1), some (.ref a2), some (.int (nI i))] : xL), ([] : List Value)))) (Inv := fun i => i ≤ N ∧ ∀ j, j < i → f j = h j) (μ := fun i => N - i) ?_ 0 ⟨Nat.zero_le _, fun j hj => absurd hj (Nat.not_lt_zero j)⟩
  intro j hi ih
  dsimp only at hi ih ⊢
  refine x_iload_n hC dJ11_equals_9 (q := 10) rfl rfl ?_
  refine x_aloadr_n hC dJ11_equals_10 (q := 11) rfl rfl ?_
  refine x_alen hC dJ11_equals_11 (q := 12) rfl (n := n1) hv ?_
  refine x_icmp_ge hC dJ11_equals_12 (q := 15) rfl (tgt := 32) rfl (fun h12 => ?_) (fun h12 => ?_)
  · have hj3 : j = N := by
      have h2 : nI N ≤ nI j := h12
      have := (nI_leI (by omega) (by omega)).mp h2
      omega
    have hys : N = M ∧ sEqs f h N = true := ⟨hNM, sEqs_iff.mpr (by rw [← hj3]; exact hi.2)⟩
    refine x_iconst hC dJ11_equals_32 (q := 33) rfl (v := (1)) (by decide) ?_
    exact x_zret hC hr rfl dJ11_equals_33 (Nat.le_of_ble_eq_true rfl) (Nat.le_of_ble_eq_true rfl) (by first | exact ⟨by rw [if_neg hno], rfl⟩ | exact ⟨by rw [if_pos hys], rfl⟩)
  have hj2 : j < N := Nat.lt_of_not_le (fun q => h12 (show nI N ≤ nI j from nI_le q (by omega)))
  refine x_aloadr_n hC dJ11_equals_15 (q := 16) rfl rfl ?_
  refine x_iload_n hC dJ11_equals_16 (q := 17) rfl rfl ?_
  refine x_bald hC dJ11_equals_17 (q := 18) rfl (n := n1) hv rfl hj2 hN ?_
  refine x_aloadr_n hC dJ11_equals_18 (q := 19) rfl rfl ?_
  refine x_iload_n hC dJ11_equals_19 (q := 20) rfl rfl ?_
  refine x_bald hC dJ11_equals_20 (q := 21) rfl (n := n2) hw rfl (by omega) hM ?_
  refine x_icmp_eq hC dJ11_equals_21 (q := 24) rfl (tgt := 26) rfl (fun h21 => ?_) (fun h21 => ?_)
  · refine x_iinc hC dJ11_equals_26 (q := 29) rfl rfl (v := nI (j + 1)) (nI_1 j) ?_
    refine x_goto hC dJ11_equals_29 (tgt := 9) rfl ?_
    exact ih (j + 1) ⟨by omega, fun k hk => by
      rcases Nat.lt_or_eq_of_le (Nat.le_of_lt_succ hk) with e | e
      · exact hi.2 k e
      · subst e; exact h21⟩ (by omega)
  have hno : ¬ (N = M ∧ sEqs f h N = true) := fun q => h21 (sEqs_iff.mp q.2 j hj2)
  refine x_iconst hC dJ11_equals_24 (q := 25) rfl (v := (0)) (by decide) ?_
  exact x_zret hC hr rfl dJ11_equals_25 (Nat.le_of_ble_eq_true rfl) (Nat.le_of_ble_eq_true rfl) (by first | exact ⟨by rw [if_neg hno], rfl⟩ | exact ⟨by rw [if_pos hys], rfl⟩)
