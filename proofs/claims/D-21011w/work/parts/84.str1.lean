/-! strings of Latin-1 letters: small parts -/
set_option maxHeartbeats 4000000 in
set_option maxRecDepth 100000 in
theorem m_J6_coder {l : Launch} {s0 : State} {D : va_G} (h0 : x0 l s0 D) (g : xG) {n : xN} {a va : Nat} {hr : List Value} (hs : g n = some (a, xO 23 (.ref va :: .int 0 :: hr))) : xMet l s0 D yJ6_coder cJ6_coder 1 (some .byte) (xr 0 0 0 0) [.ref a] g (fun r g1 => r = some (.int 0) ∧ g1 = g) := by
  refine xMet.of h0 (by decide +kernel) rfl ?_
  intro p e s m args below meth c hC hr hnm
  refine x_gets hC (xz_compact h0) (Or.inl q442) dJ6_coder_0 (q := 3) rfl ?_
  refine x_if_eq hC dJ6_coder_3 (q := 6) rfl (tgt := 13) rfl (fun h3 => ?_) (fun h3 => ?_)
  · exact absurd h3 (by decide)
  refine x_aloadr_n hC dJ6_coder_6 (q := 7) rfl rfl ?_
  refine x_get hC xf_J6_15_23 dJ6_coder_7 (q := 10) rfl (n := n) hs rfl ?_
  refine x_goto hC dJ6_coder_10 (tgt := 14) rfl ?_
  exact x_zret hC hr rfl dJ6_coder_14 (Nat.le_of_ble_eq_true rfl) (Nat.le_of_ble_eq_true rfl) ⟨rfl, rfl⟩

set_option maxHeartbeats 4000000 in
set_option maxRecDepth 100000 in
theorem m_J6_isLatin1 {l : Launch} {s0 : State} {D : va_G} (h0 : x0 l s0 D) (g : xG) {n : xN} {a va : Nat} {hr : List Value} (hs : g n = some (a, xO 23 (.ref va :: .int 0 :: hr))) : xMet l s0 D yJ6_isLatin1 cJ6_isLatin1 1 (some .boolean) (xr 0 0 0 0) [.ref a] g (fun r g1 => r = some (.int 1) ∧ g1 = g) := by
  refine xMet.of h0 (by decide +kernel) rfl ?_
  intro p e s m args below meth c hC hr hnm
  refine x_gets hC (xz_compact h0) (Or.inl q442) dJ6_isLatin1_0 (q := 3) rfl ?_
  refine x_if_eq hC dJ6_isLatin1_3 (q := 6) rfl (tgt := 17) rfl (fun h3 => ?_) (fun h3 => ?_)
  · exact absurd h3 (by decide)
  refine x_aloadr_n hC dJ6_isLatin1_6 (q := 7) rfl rfl ?_
  refine x_get hC xf_J6_15_23 dJ6_isLatin1_7 (q := 10) rfl (n := n) hs rfl ?_
  refine x_if_ne hC dJ6_isLatin1_10 (q := 13) rfl (tgt := 17) rfl (fun h10 => ?_) (fun h10 => ?_)
  · exact absurd rfl h10
  refine x_iconst hC dJ6_isLatin1_13 (q := 14) rfl (v := (1)) (by decide) ?_
  refine x_goto hC dJ6_isLatin1_14 (tgt := 18) rfl ?_
  exact x_zret hC hr rfl dJ6_isLatin1_18 (Nat.le_of_ble_eq_true rfl) (Nat.le_of_ble_eq_true rfl) ⟨rfl, rfl⟩
