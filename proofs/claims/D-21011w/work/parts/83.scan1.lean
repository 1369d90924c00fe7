/-! the scanner: small parts -/
set_option maxHeartbeats 4000000 in
set_option maxRecDepth 100000 in
theorem m_X5_isLetter {l : Launch} {s0 : State} {D : va_G} (h0 : x0 l s0 D) (g : xG) (a : Nat) (x : Int32) : xMet l s0 D yX5_isLetter cX5_isLetter 2 (some .boolean) (xr 0 0 0 0) [.ref a, .int x] g (fun r g1 => r = some (.int (if 97 ≤ x ∧ x ≤ 122 then 1 else 0)) ∧ g1 = g) := by
  refine xMet.of h0 (by decide +kernel) rfl ?_
  intro p e s m args below meth c hC hr hnm
  refine x_iload_n hC dX5_isLetter_0 (q := 1) rfl rfl ?_
  refine x_bipush hC dX5_isLetter_1 (q := 3) rfl (v := (97)) (by decide) ?_
  refine x_icmp_lt hC dX5_isLetter_3 (q := 6) rfl (tgt := 16) rfl (fun h3 => ?_) (fun h3 => ?_)
  · have hno : ¬ (97 ≤ x ∧ x ≤ 122) := fun q => absurd q.1 (Int32.not_le.mpr h3)
    refine x_iconst hC dX5_isLetter_16 (q := 17) rfl (v := (0)) (by decide) ?_
    exact x_zret hC hr rfl dX5_isLetter_17 (Nat.le_of_ble_eq_true rfl) (Nat.le_of_ble_eq_true rfl) (by first | exact ⟨by rw [if_neg hno], rfl⟩ | exact ⟨by rw [if_pos hys], rfl⟩)
  refine x_iload_n hC dX5_isLetter_6 (q := 7) rfl rfl ?_
  refine x_bipush hC dX5_isLetter_7 (q := 9) rfl (v := (122)) (by decide) ?_
  refine x_icmp_gt hC dX5_isLetter_9 (q := 12) rfl (tgt := 16) rfl (fun h9 => ?_) (fun h9 => ?_)
  · have hno : ¬ (97 ≤ x ∧ x ≤ 122) := fun q => absurd q.2 (Int32.not_le.mpr h9)
    refine x_iconst hC dX5_isLetter_16 (q := 17) rfl (v := (0)) (by decide) ?_
    exact x_zret hC hr rfl dX5_isLetter_17 (Nat.le_of_ble_eq_true rfl) (Nat.le_of_ble_eq_true rfl) (by first | exact ⟨by rw [if_neg hno], rfl⟩ | exact ⟨by rw [if_pos hys], rfl⟩)
  have hys : 97 ≤ x ∧ x ≤ 122 := ⟨Int32.not_lt.mp h3, Int32.not_lt.mp h9⟩
  refine x_iconst hC dX5_isLetter_12 (q := 13) rfl (v := (1)) (by decide) ?_
  refine x_goto hC dX5_isLetter_13 (tgt := 17) rfl ?_
  exact x_zret hC hr rfl dX5_isLetter_17 (Nat.le_of_ble_eq_true rfl) (Nat.le_of_ble_eq_true rfl) (by first | exact ⟨by rw [if_neg hno], rfl⟩ | exact ⟨by rw [if_pos hys], rfl⟩)

set_option maxHeartbeats 4000000 in
set_option maxRecDepth 100000 in
theorem m_X5_isDigit {l : Launch} {s0 : State} {D : va_G} (h0 : x0 l s0 D) (g : xG) (a : Nat) (x : Int32) : xMet l s0 D yX5_isDigit cX5_isDigit 2 (some .boolean) (xr 0 0 0 0) [.ref a, .int x] g (fun r g1 => r = some (.int (if 48 ≤ x ∧ x ≤ 57 then 1 else 0)) ∧ g1 = g) := by
  refine xMet.of h0 (by decide +kernel) rfl ?_
  intro p e s m args below meth c hC hr hnm
  refine x_iload_n hC dX5_isDigit_0 (q := 1) rfl rfl ?_
  refine x_bipush hC dX5_isDigit_1 (q := 3) rfl (v := (48)) (by decide) ?_
  refine x_icmp_lt hC dX5_isDigit_3 (q := 6) rfl (tgt := 16) rfl (fun h3 => ?_) (fun h3 => ?_)
  · have hno : ¬ (48 ≤ x ∧ x ≤ 57) := fun q => absurd q.1 (Int32.not_le.mpr h3)
    refine x_iconst hC dX5_isDigit_16 (q := 17) rfl (v := (0)) (by decide) ?_
    exact x_zret hC hr rfl dX5_isDigit_17 (Nat.le_of_ble_eq_true rfl) (Nat.le_of_ble_eq_true rfl) (by first | exact ⟨by rw [if_neg hno], rfl⟩ | exact ⟨by rw [if_pos hys], rfl⟩)
  refine x_iload_n hC dX5_isDigit_6 (q := 7) rfl rfl ?_
  refine x_bipush hC dX5_isDigit_7 (q := 9) rfl (v := (57)) (by decide) ?_
  refine x_icmp_gt hC dX5_isDigit_9 (q := 12) rfl (tgt := 16) rfl (fun h9 => ?_) (fun h9 => ?_)
  · have hno : ¬ (48 ≤ x ∧ x ≤ 57) := fun q => absurd q.2 (Int32.not_le.mpr h9)
    refine x_iconst hC dX5_isDigit_16 (q := 17) rfl (v := (0)) (by decide) ?_
    exact x_zret hC hr rfl dX5_isDigit_17 (Nat.le_of_ble_eq_true rfl) (Nat.le_of_ble_eq_true rfl) (by first | exact ⟨by rw [if_neg hno], rfl⟩ | exact ⟨by rw [if_pos hys], rfl⟩)
  have hys : 48 ≤ x ∧ x ≤ 57 := ⟨Int32.not_lt.mp h3, Int32.not_lt.mp h9⟩
  refine x_iconst hC dX5_isDigit_12 (q := 13) rfl (v := (1)) (by decide) ?_
  refine x_goto hC dX5_isDigit_13 (tgt := 17) rfl ?_
  exact x_zret hC hr rfl dX5_isDigit_17 (Nat.le_of_ble_eq_true rfl) (Nat.le_of_ble_eq_true rfl) (by first | exact ⟨by rw [if_neg hno], rfl⟩ | exact ⟨by rw [if_pos hys], rfl⟩)
