/-! the image: plain laws -/
theorem bt_n {w i : Nat} (hi : i < 32) : bt (nI w) i = w.testBit i := by
  unfold bt
  show (BitVec.ofNat 32 w).getLsbD i = _
  rw [BitVec.getLsbD_ofNat]
  simp [hi]
theorem LI.sk {gF : xG} {α : aA} {d0 : Nat} {σ : KS} (h : LI gF α d0 σ) : KSk σ := by
  obtain ⟨⟨b1, b2, b3, b4, -⟩, -, hM, hR, -, hck, -⟩ := h
  have h8 := b2.1.1
  intro c hc
  have h35 := (b4.1 c hc).2.1
  obtain ⟨w, hw⟩ : ∃ w : Nat, kI σ 35 c = w := ⟨(kI σ 35 c).toNat, by omega⟩
  have hwb : ∀ i, i < 32 → bt (iI (kI σ 35 c)) i = w.testBit i := fun i hi => by rw [hw, iI_nat, bt_n hi]
  refine ⟨fun hr => ⟨?_, hck c hc hr⟩, fun hk => ?_, ?_, fun d hd => ?_⟩
  · have e : iI (kI σ 35 c) = 0 := b_ext (fun i hi => by rw [(hM c hc).2 hr i hi, b_0])
    exact (iI_eq (b := 0) ⟨by omega, by omega⟩ ⟨by decide, by decide⟩).mp e
  · cases e : kO σ 0 c 0 with
    | none => exact absurd e hk
    | some q => exact hR c q hc e
  · have : w < 2 ^ kA σ 61 0 := Nat.lt_pow_two_of_testBit w (fun i hi => by
      by_cases h32 : i < 32
      · cases hb : w.testBit i with
        | false => rfl
        | true =>
          have := ((hM c hc).1 i h32 (by rw [hwb i h32]; exact hb)).1
          omega
      · refine Nat.testBit_lt_two_pow (Nat.lt_of_lt_of_le (show w < 2 ^ 8 by omega) (Nat.pow_le_pow_right (by decide) (by omega))))
    rw [hw]
    exact_mod_cast this
  · have hd32 : d < 32 := by
      refine Nat.lt_of_not_le (fun w => ?_)
      rw [b_big w] at hd; cases hd
    obtain ⟨m1, m2, m3⟩ := (hM c hc).1 d hd32 hd
    refine ⟨m1, m2, fun w => ?_, m3⟩
    rw [(hM d m1).2 w c (by omega)] at m3
    cases m3
theorem kByt_256 {gF : xG} {α : aA} {d0 : Nat} {σ : KS} (h : LI gF α d0 σ) (h3 : 0 ≤ kI σ 3 0 ∧ kI σ 3 0 ≤ 999) (j : Nat) (hj : j < kIml σ) : kByt σ j < 256 := by
  obtain ⟨⟨b1, b2, b3, b4, -⟩, -, hM, hR, h7, hck, -⟩ := h
  have hw := b2.1
  unfold kIml at hj
  unfold kByt
  split
  · split
    · split <;> omega
    · split
      · split <;> omega
      · have hc : (j - 4) / 6 < kA σ 61 0 := by omega
        have hr : (j - 4) % 6 < 6 := Nat.mod_lt _ (by decide)
        have hn := b4.1 _ hc
        generalize (j - 4) / 6 = c at hc hn
        generalize (j - 4) % 6 = r at hr
        match r, hr with
        | 0, _ => show (if iI (kI σ 34 c) = -1 then 0 else 1) < 256; split <;> decide
        | 1, _ =>
          show (match kO σ 0 c 0 with | none => 255 | some q => q) < 256
          cases e : kO σ 0 c 0 with
          | none => decide
          | some q => have := hw.2.2.2.2.1 c q hc e; have := hw.2.1; show q < 256; omega
        | 2, _ =>
          show k255 (kI σ 33 c) < 256
          unfold k255
          split
          · decide
          · cases e : kO σ 0 c 0 with
            | none => have := b3.2.2 c hc e; omega
            | some q =>
              obtain ⟨hq, p, p1, p2⟩ := b3.2.1 c q hc e
              have := hw.2.2.2.1 q hq
              omega
        | 3, _ => show k255 (kI σ 34 c) < 256; unfold k255; split <;> omega
        | 4, _ => show (if iI (kI σ 36 c) = 0 then 0 else 1) < 256; split <;> decide
        | 5, _ => show (kI σ 35 c).toNat < 256; omega
        | r + 6, hr => omega
  · have := b4.2 (j - 4 - 6 * kA σ 61 0) (by omega)
    unfold k255
    split <;> omega
theorem kIb_256 {gF : xG} {α : aA} {d0 : Nat} {σ : KS} (h : LI gF α d0 σ) (h3 : 0 ≤ kI σ 3 0 ∧ kI σ 3 0 ≤ 999) (j : Nat) : kIb σ j < 256 := by
  unfold kIb
  split
  · exact kByt_256 h h3 j (by assumption)
  · have := kLst_lt (kByt σ) (kIml σ)
    omega

set_option maxHeartbeats 4000000 in
set_option maxRecDepth 100000 in
theorem m_X2_undo_0 {l : Launch} {s0 : State} {D : va_G} (h0 : x0 l s0 D) (σ : KS) (gF : xG) (h65 : kA σ 65 0 = 0) : xMet l s0 D yX2_undo cX2_undo 1 (some .boolean) (xr 2 0 0 60) [.ref (kA σ 0 0)] (kmix σ gF) (fun r g1 => r = some (.int 0) ∧ g1 = kmix (kVs σ 1 0 4 (kV σ 1 0 4 + 1)) gF) := by
  refine xMet.of h0 (by decide +kernel) rfl ?_
  intro zp ze zs zm za zb zf zc hC hr hnm
  refine x_aloadr_n hC dX2_undo_0 (q := 1) rfl rfl ?_
  refine x_get hC xf_X2_45_1 dX2_undo_1 (q := 4) rfl (n := (0, 0)) rfl rfl ?_
  refine x_callV hC xv_X2_283 dX2_undo_4 (q := 7) rfl rfl (m_J3_isEmpty h0 _ (n := (16, 0)) rfl) (nn := (16, 0)) rfl rfl rfl (Nat.le_of_ble_eq_true rfl) ⟨(Nat.le_of_ble_eq_true rfl), (Nat.le_of_ble_eq_true rfl)⟩ ⟨(Nat.le_of_ble_eq_true rfl), (Nat.le_of_ble_eq_true rfl)⟩ (fun v g1 hp => ?_)
  rw [if_pos (show nI (kA σ 65 0) = 0 by rw [h65]; rfl)] at hp
  obtain ⟨rfl, hg1⟩ := hp
  replace hg1 := hg1.symm
  subst hg1
  refine x_if_eq hC dX2_undo_7 (q := 10) rfl (tgt := 16) rfl (fun h7 => ?_) (fun h7 => ?_)
  · exact absurd h7 (by decide)
  have hx7 := h7
  refine x_aloadr_n hC dX2_undo_10 (q := 11) rfl rfl ?_
  refine x_iconst hC dX2_undo_11 (q := 12) rfl (v := (4)) (by decide) ?_
  refine x_callV hC xv_X2_89 dX2_undo_12 (q := 15) rfl rfl (m_X2_refuses h0 σ gF 4 (by decide)) (nn := (0, 0)) rfl rfl rfl (Nat.le_of_ble_eq_true rfl) ⟨(Nat.le_of_ble_eq_true rfl), (Nat.le_of_ble_eq_true rfl)⟩ ⟨(Nat.le_of_ble_eq_true rfl), (Nat.le_of_ble_eq_true rfl)⟩ (fun v g1 hp => ?_)
  obtain ⟨rfl, hg1⟩ := hp
  subst hg1
  exact x_zret hC hr rfl dX2_undo_15 (Nat.le_of_ble_eq_true rfl) (Nat.le_of_ble_eq_true rfl) ⟨rfl, rfl⟩
