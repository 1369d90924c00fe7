/-! what an image told is right -/
/-- raw and fired; who sticks to whom -/
def KSk (σ : KS) : Prop := ∀ c, c < kA σ 61 0 → (kI σ 34 c = -1 → kI σ 35 c = 0 ∧ kI σ 36 c = 0) ∧ (kO σ 0 c 0 ≠ none → kI σ 34 c = -1) ∧ (kI σ 35 c < ((2 ^ kA σ 61 0 : Nat) : Int)) ∧ ∀ d, bt (iI (kI σ 35 c)) d = true → d < kA σ 61 0 ∧ d ≠ c ∧ kI σ 34 d ≠ -1 ∧ bt (iI (kI σ 35 d)) c = true
/-- the tape holds the image -/
def KTp (σ : KS) : Prop := ∀ j, j < kIml σ + 1 → kV σ 0 0 j = (kIb σ j : Int)
theorem KTp.c {σ : KS} (h : KTp σ) {c : Nat} (hc : c < kA σ 61 0) {r : Nat} (hr : r < 6) : iI (kV σ 0 0 (4 + 6 * c + r)) = nI (kBy6 σ c r) := by
  rw [h _ (by unfold kIml; omega), iI_nat]
  unfold kIb
  rw [if_pos (by unfold kIml; omega), kByt_c σ hc hr]
theorem KTp.q {σ : KS} (h : KTp σ) {q : Nat} (hq : q < kA σ 62 0) : iI (kV σ 0 0 (4 + 6 * kA σ 61 0 + q)) = nI (k255 (kI σ 41 q)) := by
  rw [h _ (by unfold kIml; omega), iI_nat]
  unfold kIb
  rw [if_pos (by unfold kIml; omega), kByt_q]
theorem KTp.b {σ : KS} (h : KTp σ) {j : Nat} (hj : j < kIml σ) : kV σ 0 0 j = (kByt σ j : Int) := by
  rw [h _ (by omega)]
  unfold kIb
  rw [if_pos hj]
theorem nI_sub {a b : Nat} (h : b ≤ a) : nI a - nI b = nI (a - b) := by
  rw [← iI_nat, ← iI_nat, iI_sub, ← iI_nat]
  congr 1
  omega
section RAWB
variable {σ : KS} {c : Nat}
theorem kBy6_raw (hr : kI σ 34 c = -1) (hs : kI σ 35 c = 0 ∧ kI σ 36 c = 0) : kBy6 σ c 0 = 0 ∧ kBy6 σ c 3 = 255 ∧ kBy6 σ c 4 = 0 ∧ kBy6 σ c 5 = 0 := by
  refine ⟨?_, ?_, ?_, ?_⟩
  · show (if iI (kI σ 34 c) = -1 then 0 else 1) = 0; rw [hr]; rfl
  · show k255 (kI σ 34 c) = 255; rw [hr]; rfl
  · show (if iI (kI σ 36 c) = 0 then 0 else 1) = 0; rw [hs.2]; rfl
  · show (kI σ 35 c).toNat = 0; rw [hs.1]; rfl
theorem kBy6_none (hk : kO σ 0 c 0 = none) (h33 : kI σ 33 c = -1) : kBy6 σ c 1 = 255 ∧ kBy6 σ c 2 = 255 := by
  refine ⟨?_, ?_⟩
  · show (match kO σ 0 c 0 with | none => 255 | some q => q) = 255; rw [hk]
  · show k255 (kI σ 33 c) = 255; rw [h33]; rfl
theorem kBy6_some {q p : Nat} (hk : kO σ 0 c 0 = some q) (h33 : kI σ 33 c = p) : kBy6 σ c 1 = q ∧ kBy6 σ c 2 = p := by
  refine ⟨?_, ?_⟩
  · show (match kO σ 0 c 0 with | none => 255 | some q => q) = q; rw [hk]
  · show k255 (kI σ 33 c) = p; rw [h33]; exact (if_neg (by omega)).trans (Int.toNat_natCast p)
theorem kBy6_fired (hn : -1 ≤ kI σ 34 c ∧ kI σ 34 c ≤ 99) (hf : kI σ 34 c ≠ -1) : kBy6 σ c 0 = 1 ∧ kBy6 σ c 3 ≤ 99 ∧ kBy6 σ c 4 ≤ 1 := by
  refine ⟨?_, ?_, ?_⟩
  · show (if iI (kI σ 34 c) = -1 then 0 else 1) = 1
    exact if_neg (fun q => hf ((iI_eq ⟨by omega, by omega⟩ ⟨by decide, by decide⟩).mp (q.trans (show (-1 : Int32) = iI (-1) from rfl))))
  · show k255 (kI σ 34 c) ≤ 99; unfold k255; rw [if_neg hf]; omega
  · show (if iI (kI σ 36 c) = 0 then 0 else 1) ≤ 1; split <;> omega
theorem kBy6_at (hp : KPl σ) (hw : KW σ) (hc : c < kA σ 61 0) {q p : Nat} (hq : q < kA σ 62 0) (hp6 : p < 6) (h1 : kBy6 σ c 1 = q) (h2 : kBy6 σ c 2 = p) : kO σ 1 q p = some c := by
  have h3 := hw.2.1
  cases hk : kO σ 0 c 0 with
  | none =>
    have := (kBy6_none hk (hp.2.2 c hc hk)).1
    omega
  | some q' =>
    obtain ⟨_, p', _, hp'⟩ := hp.2.1 c q' hc hk
    have h4 := kBy6_some hk hp'
    rw [h1, h2] at h4
    exact (hp.1 q p c).mpr ⟨hc, by rw [hk, h4.1], by rw [hp', h4.2]⟩
end RAWB

set_option maxHeartbeats 4000000 in
set_option maxRecDepth 100000 in
theorem m_isRawTold_n {l : Launch} {s0 : State} {D : va_G} (h0 : x0 l s0 D) (σ : KS) (gF : xG) (hw : KW σ) (hp : KPl σ) (hb : KTp σ) (c1 : Nat) (hc1 : c1 < kA σ 61 0) (hraw : kI σ 34 c1 = -1) (hs : kI σ 35 c1 = 0 ∧ kI σ 36 c1 = 0) (hk : kO σ 0 c1 0 = none) : xMet l s0 D yX2_isRawTold cX2_isRawTold 3 (some .boolean) (xr 5 0 0 106) [.ref (kA σ 0 0), .int (nI (4 + 6 * c1))] (kmix σ gF) (fun r g1 => r = some (.int 1) ∧ g1 = kmix σ gF) := by
  have h61 := hw.1
  have h62 := hw.2.1
  obtain ⟨b0, b3, b4, b5⟩ := kBy6_raw hraw hs
  have hv (r : Nat) (hr : r < 6) : iI (kV σ 0 0 (4 + 6 * c1 + r)) = nI (kBy6 σ c1 r) := hb.c hc1 hr
  have hbn := kBy6_none hk (hp.2.2 c1 hc1 hk)
  refine xMet.of h0 (by decide +kernel) rfl ?_
  intro p e s m args below meth c hC hr hnm
  refine x_aloadr_n hC dX2_isRawTold_0 (q := 1) rfl rfl ?_
  refine x_get hC xf_X2_9_1 dX2_isRawTold_1 (q := 4) rfl (n := (0, 0)) rfl rfl ?_
  refine x_iload_n hC dX2_isRawTold_4 (q := 5) rfl rfl ?_
  refine x_iconst hC dX2_isRawTold_5 (q := 6) rfl (v := (3)) (by decide) ?_
  refine x_iadd hC dX2_isRawTold_6 (q := 7) rfl ?_
  refine x_cald hC dX2_isRawTold_7 (q := 8) rfl (n := (1, 0)) rfl (j := 4 + 6 * c1 + 3) (nI_add (4 + 6 * c1) 3) (by omega) (by decide) ?_
  refine x_sipush hC dX2_isRawTold_8 (q := 11) rfl (v := (255)) (by decide) ?_
  refine x_icmp_ne hC dX2_isRawTold_11 (q := 14) rfl (tgt := 36) rfl (fun h11 => ?_) (fun h11 => ?_)
  · exact absurd (by rw [hv 3 (by decide), b3]; rfl) h11
  refine x_aloadr_n hC dX2_isRawTold_14 (q := 15) rfl rfl ?_
  refine x_get hC xf_X2_9_1 dX2_isRawTold_15 (q := 18) rfl (n := (0, 0)) rfl rfl ?_
  refine x_iload_n hC dX2_isRawTold_18 (q := 19) rfl rfl ?_
  refine x_iconst hC dX2_isRawTold_19 (q := 20) rfl (v := (4)) (by decide) ?_
  refine x_iadd hC dX2_isRawTold_20 (q := 21) rfl ?_
  refine x_cald hC dX2_isRawTold_21 (q := 22) rfl (n := (1, 0)) rfl (j := 4 + 6 * c1 + 4) (nI_add (4 + 6 * c1) 4) (by omega) (by decide) ?_
  refine x_if_ne hC dX2_isRawTold_22 (q := 25) rfl (tgt := 36) rfl (fun h22 => ?_) (fun h22 => ?_)
  · exact absurd (by rw [hv 4 (by decide), b4]; rfl) h22
  refine x_aloadr_n hC dX2_isRawTold_25 (q := 26) rfl rfl ?_
  refine x_get hC xf_X2_9_1 dX2_isRawTold_26 (q := 29) rfl (n := (0, 0)) rfl rfl ?_
  refine x_iload_n hC dX2_isRawTold_29 (q := 30) rfl rfl ?_
  refine x_iconst hC dX2_isRawTold_30 (q := 31) rfl (v := (5)) (by decide) ?_
  refine x_iadd hC dX2_isRawTold_31 (q := 32) rfl ?_
  refine x_cald hC dX2_isRawTold_32 (q := 33) rfl (n := (1, 0)) rfl (j := 4 + 6 * c1 + 5) (nI_add (4 + 6 * c1) 5) (by omega) (by decide) ?_
  refine x_if_eq hC dX2_isRawTold_33 (q := 36) rfl (tgt := 38) rfl (fun h33 => ?_) (fun h33 => ?_)
  · refine x_aloadr_n hC dX2_isRawTold_38 (q := 39) rfl rfl ?_
    refine x_get hC xf_X2_9_1 dX2_isRawTold_39 (q := 42) rfl (n := (0, 0)) rfl rfl ?_
    refine x_iload_n hC dX2_isRawTold_42 (q := 43) rfl rfl ?_
    refine x_iconst hC dX2_isRawTold_43 (q := 44) rfl (v := (1)) (by decide) ?_
    refine x_iadd hC dX2_isRawTold_44 (q := 45) rfl ?_
    refine x_cald hC dX2_isRawTold_45 (q := 46) rfl (n := (1, 0)) rfl (j := 4 + 6 * c1 + 1) (nI_add (4 + 6 * c1) 1) (by omega) (by decide) ?_
    refine x_sipush hC dX2_isRawTold_46 (q := 49) rfl (v := (255)) (by decide) ?_
    refine x_icmp_ne hC dX2_isRawTold_49 (q := 52) rfl (tgt := 68) rfl (fun h49 => ?_) (fun h49 => ?_)
    · exact absurd (by rw [hv 1 (by decide), hbn.1]; rfl) h49
    refine x_aloadr_n hC dX2_isRawTold_52 (q := 53) rfl rfl ?_
    refine x_get hC xf_X2_9_1 dX2_isRawTold_53 (q := 56) rfl (n := (0, 0)) rfl rfl ?_
    refine x_iload_n hC dX2_isRawTold_56 (q := 57) rfl rfl ?_
    refine x_iconst hC dX2_isRawTold_57 (q := 58) rfl (v := (2)) (by decide) ?_
    refine x_iadd hC dX2_isRawTold_58 (q := 59) rfl ?_
    refine x_cald hC dX2_isRawTold_59 (q := 60) rfl (n := (1, 0)) rfl (j := 4 + 6 * c1 + 2) (nI_add (4 + 6 * c1) 2) (by omega) (by decide) ?_
    refine x_sipush hC dX2_isRawTold_60 (q := 63) rfl (v := (255)) (by decide) ?_
    refine x_icmp_ne hC dX2_isRawTold_63 (q := 66) rfl (tgt := 68) rfl (fun h63 => ?_) (fun h63 => ?_)
    · exact absurd (by rw [hv 2 (by decide), hbn.2]; rfl) h63
    refine x_iconst hC dX2_isRawTold_66 (q := 67) rfl (v := (1)) (by decide) ?_
    exact x_zret hC hr rfl dX2_isRawTold_67 (Nat.le_of_ble_eq_true rfl) (Nat.le_of_ble_eq_true rfl) ⟨rfl, rfl⟩
  · exact absurd (by rw [hv 5 (by decide), b5]; rfl) h33

set_option maxHeartbeats 4000000 in
set_option maxRecDepth 100000 in
theorem m_isRawTold_s {l : Launch} {s0 : State} {D : va_G} (h0 : x0 l s0 D) (σ : KS) (gF : xG) (hw : KW σ) (hp : KPl σ) (hb : KTp σ) (c1 : Nat) (hc1 : c1 < kA σ 61 0) (hraw : kI σ 34 c1 = -1) (hs : kI σ 35 c1 = 0 ∧ kI σ 36 c1 = 0) (hn : KNb σ) {kq pl : Nat} (hq : kq < kA σ 62 0) (hk : kO σ 0 c1 0 = some kq) (hpl : pl < kA σ 25 kq) (hpe : kI σ 33 c1 = pl) : xMet l s0 D yX2_isRawTold cX2_isRawTold 3 (some .boolean) (xr 5 0 0 106) [.ref (kA σ 0 0), .int (nI (4 + 6 * c1))] (kmix σ gF) (fun r g1 => r = some (.int 1) ∧ g1 = kmix σ gF) := by
  have h61 := hw.1
  have h62 := hw.2.1
  obtain ⟨b0, b3, b4, b5⟩ := kBy6_raw hraw hs
  have hv (r : Nat) (hr : r < 6) : iI (kV σ 0 0 (4 + 6 * c1 + r)) = nI (kBy6 σ c1 r) := hb.c hc1 hr
  have hbs := kBy6_some hk hpe
  have h6 := hw.2.2.2.1 kq hq
  refine xMet.of h0 (by decide +kernel) rfl ?_
  intro p e s m args below meth c hC hr hnm
  refine x_aloadr_n hC dX2_isRawTold_0 (q := 1) rfl rfl ?_
  refine x_get hC xf_X2_9_1 dX2_isRawTold_1 (q := 4) rfl (n := (0, 0)) rfl rfl ?_
  refine x_iload_n hC dX2_isRawTold_4 (q := 5) rfl rfl ?_
  refine x_iconst hC dX2_isRawTold_5 (q := 6) rfl (v := (3)) (by decide) ?_
  refine x_iadd hC dX2_isRawTold_6 (q := 7) rfl ?_
  refine x_cald hC dX2_isRawTold_7 (q := 8) rfl (n := (1, 0)) rfl (j := 4 + 6 * c1 + 3) (nI_add (4 + 6 * c1) 3) (by omega) (by decide) ?_
  refine x_sipush hC dX2_isRawTold_8 (q := 11) rfl (v := (255)) (by decide) ?_
  refine x_icmp_ne hC dX2_isRawTold_11 (q := 14) rfl (tgt := 36) rfl (fun h11 => ?_) (fun h11 => ?_)
  · exact absurd (by rw [hv 3 (by decide), b3]; rfl) h11
  refine x_aloadr_n hC dX2_isRawTold_14 (q := 15) rfl rfl ?_
  refine x_get hC xf_X2_9_1 dX2_isRawTold_15 (q := 18) rfl (n := (0, 0)) rfl rfl ?_
  refine x_iload_n hC dX2_isRawTold_18 (q := 19) rfl rfl ?_
  refine x_iconst hC dX2_isRawTold_19 (q := 20) rfl (v := (4)) (by decide) ?_
  refine x_iadd hC dX2_isRawTold_20 (q := 21) rfl ?_
  refine x_cald hC dX2_isRawTold_21 (q := 22) rfl (n := (1, 0)) rfl (j := 4 + 6 * c1 + 4) (nI_add (4 + 6 * c1) 4) (by omega) (by decide) ?_
  refine x_if_ne hC dX2_isRawTold_22 (q := 25) rfl (tgt := 36) rfl (fun h22 => ?_) (fun h22 => ?_)
  · exact absurd (by rw [hv 4 (by decide), b4]; rfl) h22
  refine x_aloadr_n hC dX2_isRawTold_25 (q := 26) rfl rfl ?_
  refine x_get hC xf_X2_9_1 dX2_isRawTold_26 (q := 29) rfl (n := (0, 0)) rfl rfl ?_
  refine x_iload_n hC dX2_isRawTold_29 (q := 30) rfl rfl ?_
  refine x_iconst hC dX2_isRawTold_30 (q := 31) rfl (v := (5)) (by decide) ?_
  refine x_iadd hC dX2_isRawTold_31 (q := 32) rfl ?_
  refine x_cald hC dX2_isRawTold_32 (q := 33) rfl (n := (1, 0)) rfl (j := 4 + 6 * c1 + 5) (nI_add (4 + 6 * c1) 5) (by omega) (by decide) ?_
  refine x_if_eq hC dX2_isRawTold_33 (q := 36) rfl (tgt := 38) rfl (fun h33 => ?_) (fun h33 => ?_)
  · refine x_aloadr_n hC dX2_isRawTold_38 (q := 39) rfl rfl ?_
    refine x_get hC xf_X2_9_1 dX2_isRawTold_39 (q := 42) rfl (n := (0, 0)) rfl rfl ?_
    refine x_iload_n hC dX2_isRawTold_42 (q := 43) rfl rfl ?_
    refine x_iconst hC dX2_isRawTold_43 (q := 44) rfl (v := (1)) (by decide) ?_
    refine x_iadd hC dX2_isRawTold_44 (q := 45) rfl ?_
    refine x_cald hC dX2_isRawTold_45 (q := 46) rfl (n := (1, 0)) rfl (j := 4 + 6 * c1 + 1) (nI_add (4 + 6 * c1) 1) (by omega) (by decide) ?_
    refine x_sipush hC dX2_isRawTold_46 (q := 49) rfl (v := (255)) (by decide) ?_
    refine x_icmp_ne hC dX2_isRawTold_49 (q := 52) rfl (tgt := 68) rfl (fun h49 => ?_) (fun h49 => ?_)
    · refine x_aloadr_n hC dX2_isRawTold_68 (q := 69) rfl rfl ?_
      refine x_aloadr_n hC dX2_isRawTold_69 (q := 70) rfl rfl ?_
      refine x_get hC xf_X2_9_1 dX2_isRawTold_70 (q := 73) rfl (n := (0, 0)) rfl rfl ?_
      refine x_iload_n hC dX2_isRawTold_73 (q := 74) rfl rfl ?_
      refine x_iconst hC dX2_isRawTold_74 (q := 75) rfl (v := (1)) (by decide) ?_
      refine x_iadd hC dX2_isRawTold_75 (q := 76) rfl ?_
      refine x_cald hC dX2_isRawTold_76 (q := 77) rfl (n := (1, 0)) rfl (j := 4 + 6 * c1 + 1) (nI_add (4 + 6 * c1) 1) (by omega) (by decide) ?_
      refine x_steq (st1 := [.int (nI kq), .ref (kA σ 0 0)]) (by rw [hv 1 (by decide), hbs.1]) ?_
      refine x_callV hC xv_X2_317 dX2_isRawTold_77 (q := 80) rfl rfl (m_X2_kilnOf h0 σ gF hw kq hq) (nn := (0, 0)) rfl rfl rfl (Nat.le_of_ble_eq_true rfl) ⟨(Nat.le_of_ble_eq_true rfl), (Nat.le_of_ble_eq_true rfl)⟩ ⟨(Nat.le_of_ble_eq_true rfl), (Nat.le_of_ble_eq_true rfl)⟩ (fun v g1 hp => ?_)
      obtain ⟨rfl, hg1⟩ := hp
      replace hg1 := hg1.symm
      subst hg1
      refine x_ifnull_r hC dX2_isRawTold_80 (q := 83) rfl ?_
      refine x_aloadr_n hC dX2_isRawTold_83 (q := 84) rfl rfl ?_
      refine x_get hC xf_X2_9_1 dX2_isRawTold_84 (q := 87) rfl (n := (0, 0)) rfl rfl ?_
      refine x_iload_n hC dX2_isRawTold_87 (q := 88) rfl rfl ?_
      refine x_iconst hC dX2_isRawTold_88 (q := 89) rfl (v := (2)) (by decide) ?_
      refine x_iadd hC dX2_isRawTold_89 (q := 90) rfl ?_
      refine x_cald hC dX2_isRawTold_90 (q := 91) rfl (n := (1, 0)) rfl (j := 4 + 6 * c1 + 2) (nI_add (4 + 6 * c1) 2) (by omega) (by decide) ?_
      refine x_aloadr_n hC dX2_isRawTold_91 (q := 92) rfl rfl ?_
      refine x_aloadr_n hC dX2_isRawTold_92 (q := 93) rfl rfl ?_
      refine x_get hC xf_X2_9_1 dX2_isRawTold_93 (q := 96) rfl (n := (0, 0)) rfl rfl ?_
      refine x_iload_n hC dX2_isRawTold_96 (q := 97) rfl rfl ?_
      refine x_iconst hC dX2_isRawTold_97 (q := 98) rfl (v := (1)) (by decide) ?_
      refine x_iadd hC dX2_isRawTold_98 (q := 99) rfl ?_
      refine x_cald hC dX2_isRawTold_99 (q := 100) rfl (n := (1, 0)) rfl (j := 4 + 6 * c1 + 1) (nI_add (4 + 6 * c1) 1) (by omega) (by decide) ?_
      refine x_steq (st1 := [.int (nI kq), .ref (kA σ 0 0), .int (nI pl)]) (by rw [hv 1 (by decide), hbs.1, hv 2 (by decide), hbs.2]; rfl) ?_
      refine x_callV hC xv_X2_317 dX2_isRawTold_100 (q := 103) rfl rfl (m_X2_kilnOf h0 σ gF hw kq hq) (nn := (0, 0)) rfl rfl rfl (Nat.le_of_ble_eq_true rfl) ⟨(Nat.le_of_ble_eq_true rfl), (Nat.le_of_ble_eq_true rfl)⟩ ⟨(Nat.le_of_ble_eq_true rfl), (Nat.le_of_ble_eq_true rfl)⟩ (fun v g1 hp => ?_)
      obtain ⟨rfl, hg1⟩ := hp
      replace hg1 := hg1.symm
      subst hg1
      refine x_get hC xf_X2_214_6 dX2_isRawTold_103 (q := 106) rfl (n := (21, kq)) (kg_21 kq hq) rfl ?_
      refine x_icmp_lt hC dX2_isRawTold_106 (q := 109) rfl (tgt := 111) rfl (fun h106 => ?_) (fun h106 => ?_)
      · refine x_iconst hC dX2_isRawTold_111 (q := 112) rfl (v := (4)) (by decide) ?_
        refine x_istore_n hC dX2_isRawTold_112 (q := 113) rfl rfl ?_
        refine x_loop (S := (fun i : Nat => ((0 : Nat), (0 : Nat), kmix σ gF, ([some (.ref (kA σ 0 0)), some (.int (nI (4 + 6 * c1))), some (.int (nI (4 + 6 * i)))] : xL), ([] : List Value)))) (Inv := fun i => i ≤ c1) (μ := fun i => c1 - i) ?_ 0 (Nat.zero_le _)
        intro j1 hi ih
        dsimp only at hi ih ⊢
        refine x_iload_n hC dX2_isRawTold_113 (q := 114) rfl rfl ?_
        refine x_iload_n hC dX2_isRawTold_114 (q := 115) rfl rfl ?_
        refine x_icmp_ge hC dX2_isRawTold_115 (q := 118) rfl (tgt := 164) rfl (fun h115 => ?_) (fun h115 => ?_)
        · refine x_iconst hC dX2_isRawTold_164 (q := 165) rfl (v := (1)) (by decide) ?_
          exact x_zret hC hr rfl dX2_isRawTold_165 (Nat.le_of_ble_eq_true rfl) (Nat.le_of_ble_eq_true rfl) ⟨rfl, rfl⟩
        have hj1 : j1 < c1 := by
          have h2 : ¬ nI (4 + 6 * c1) ≤ nI (4 + 6 * j1) := h115
          rw [nI_leI (by omega) (by omega)] at h2
          omega
        have hvj (r : Nat) (hr : r < 6) : iI (kV σ 0 0 (4 + 6 * j1 + r)) = nI (kBy6 σ j1 r) := hb.c (by omega) hr
        refine x_aloadr_n hC dX2_isRawTold_118 (q := 119) rfl rfl ?_
        refine x_get hC xf_X2_9_1 dX2_isRawTold_119 (q := 122) rfl (n := (0, 0)) rfl rfl ?_
        refine x_iload_n hC dX2_isRawTold_122 (q := 123) rfl rfl ?_
        refine x_iconst hC dX2_isRawTold_123 (q := 124) rfl (v := (1)) (by decide) ?_
        refine x_iadd hC dX2_isRawTold_124 (q := 125) rfl ?_
        refine x_cald hC dX2_isRawTold_125 (q := 126) rfl (n := (1, 0)) rfl (j := 4 + 6 * j1 + 1) (nI_add (4 + 6 * j1) 1) (by omega) (by decide) ?_
        refine x_aloadr_n hC dX2_isRawTold_126 (q := 127) rfl rfl ?_
        refine x_get hC xf_X2_9_1 dX2_isRawTold_127 (q := 130) rfl (n := (0, 0)) rfl rfl ?_
        refine x_iload_n hC dX2_isRawTold_130 (q := 131) rfl rfl ?_
        refine x_iconst hC dX2_isRawTold_131 (q := 132) rfl (v := (1)) (by decide) ?_
        refine x_iadd hC dX2_isRawTold_132 (q := 133) rfl ?_
        refine x_cald hC dX2_isRawTold_133 (q := 134) rfl (n := (1, 0)) rfl (j := 4 + 6 * c1 + 1) (nI_add (4 + 6 * c1) 1) (by omega) (by decide) ?_
        refine x_icmp_ne hC dX2_isRawTold_134 (q := 137) rfl (tgt := 158) rfl (fun h134 => ?_) (fun h134 => ?_)
        · refine x_iinc hC dX2_isRawTold_158 (q := 161) rfl rfl (v := nI (4 + 6 * (j1 + 1))) (nI_add (4 + 6 * j1) 6) ?_
          refine x_goto hC dX2_isRawTold_161 (tgt := 113) rfl ?_
          exact ih (j1 + 1) (by omega) (by omega)
        refine x_aloadr_n hC dX2_isRawTold_137 (q := 138) rfl rfl ?_
        refine x_get hC xf_X2_9_1 dX2_isRawTold_138 (q := 141) rfl (n := (0, 0)) rfl rfl ?_
        refine x_iload_n hC dX2_isRawTold_141 (q := 142) rfl rfl ?_
        refine x_iconst hC dX2_isRawTold_142 (q := 143) rfl (v := (2)) (by decide) ?_
        refine x_iadd hC dX2_isRawTold_143 (q := 144) rfl ?_
        refine x_cald hC dX2_isRawTold_144 (q := 145) rfl (n := (1, 0)) rfl (j := 4 + 6 * j1 + 2) (nI_add (4 + 6 * j1) 2) (by omega) (by decide) ?_
        refine x_aloadr_n hC dX2_isRawTold_145 (q := 146) rfl rfl ?_
        refine x_get hC xf_X2_9_1 dX2_isRawTold_146 (q := 149) rfl (n := (0, 0)) rfl rfl ?_
        refine x_iload_n hC dX2_isRawTold_149 (q := 150) rfl rfl ?_
        refine x_iconst hC dX2_isRawTold_150 (q := 151) rfl (v := (2)) (by decide) ?_
        refine x_iadd hC dX2_isRawTold_151 (q := 152) rfl ?_
        refine x_cald hC dX2_isRawTold_152 (q := 153) rfl (n := (1, 0)) rfl (j := 4 + 6 * c1 + 2) (nI_add (4 + 6 * c1) 2) (by omega) (by decide) ?_
        refine x_icmp_ne hC dX2_isRawTold_153 (q := 156) rfl (tgt := 158) rfl (fun h153 => ?_) (fun h153 => ?_)
        · refine x_iinc hC dX2_isRawTold_158 (q := 161) rfl rfl (v := nI (4 + 6 * (j1 + 1))) (nI_add (4 + 6 * j1) 6) ?_
          refine x_goto hC dX2_isRawTold_161 (tgt := 113) rfl ?_
          exact ih (j1 + 1) (by omega) (by omega)
        · exfalso
          have g1 : kBy6 σ j1 1 = kq := by
            have h2 := h134
            rw [hvj 1 (by decide), hv 1 (by decide), hbs.1] at h2
            exact (nI_eq (Nat.lt_trans (kBy6_lt hw hp hn (by omega) 1) (by decide)) (by omega)).mp h2
          have g2 : kBy6 σ j1 2 = pl := by
            have h2 := h153
            rw [hvj 2 (by decide), hv 2 (by decide), hbs.2] at h2
            exact (nI_eq (Nat.lt_trans (kBy6_lt hw hp hn (by omega) 2) (by decide)) (by omega)).mp h2
          have g3 := kBy6_at hp hw (c := j1) (by omega) hq (by omega) g1 g2
          have g4 := (hp.1 kq pl c1).mpr ⟨hc1, hk, hpe⟩
          rw [g3] at g4
          have := Option.some.inj g4
          omega
      · exact absurd (nI_lt hpl (by omega)) h106
    · exact absurd (show nI kq = nI 255 by rw [← hbs.1, ← hv 1 (by decide)]; exact h49) (by rw [nI_eq (by omega) (by decide)]; omega)
  · exact absurd (by rw [hv 5 (by decide), b5]; rfl) h33

theorem m_isRawTold {l : Launch} {s0 : State} {D : va_G} (h0 : x0 l s0 D) (σ : KS) (gF : xG) (hw : KW σ) (hp : KPl σ) (hb : KTp σ) (c1 : Nat) (hc1 : c1 < kA σ 61 0) (hraw : kI σ 34 c1 = -1) (hs : kI σ 35 c1 = 0 ∧ kI σ 36 c1 = 0) (hn : KNb σ) : xMet l s0 D yX2_isRawTold cX2_isRawTold 3 (some .boolean) (xr 5 0 0 106) [.ref (kA σ 0 0), .int (nI (4 + 6 * c1))] (kmix σ gF) (fun r g1 => r = some (.int 1) ∧ g1 = kmix σ gF) := by
  cases hk : kO σ 0 c1 0 with
  | none => exact m_isRawTold_n h0 σ gF hw hp hb c1 hc1 hraw hs hk
  | some q =>
    obtain ⟨h1, p, h2, h3⟩ := hp.2.1 c1 q hc1 hk
    exact m_isRawTold_s h0 σ gF hw hp hb c1 hc1 hraw hs hn h1 hk h2 h3
theorem one_shl : ∀ n, n < 9 → (1 : Int32) <<< (nI n &&& 31) = nI (2 ^ n) := by decide +kernel

set_option maxHeartbeats 4000000 in
set_option maxRecDepth 100000 in
theorem m_isFiredTold {l : Launch} {s0 : State} {D : va_G} (h0 : x0 l s0 D) (σ : KS) (gF : xG) (hw : KW σ) (hp : KPl σ) (hb : KTp σ) (hn : KNb σ) (c1 : Nat) (hc1 : c1 < kA σ 61 0) (hf : kI σ 34 c1 ≠ -1) (hk : kO σ 0 c1 0 = none) (h35 : kI σ 35 c1 < ((2 ^ kA σ 61 0 : Nat) : Int)) (hsk : ∀ d, bt (iI (kI σ 35 c1)) d = true → d < kA σ 61 0 ∧ d ≠ c1 ∧ kI σ 34 d ≠ -1 ∧ bt (iI (kI σ 35 d)) c1 = true) : xMet l s0 D yX2_isFiredTold cX2_isFiredTold 4 (some .boolean) (xr 5 0 0 106) [.ref (kA σ 0 0), .int (nI (4 + 6 * c1))] (kmix σ gF) (fun r g1 => r = some (.int 1) ∧ g1 = kmix σ gF) := by
  have h61 := hw.1
  have h62 := hw.2.1
  have hbn := kBy6_none hk (hp.2.2 c1 hc1 hk)
  have hbf := kBy6_fired (hn.1 c1 hc1).1 hf
  have hn5 := (hn.1 c1 hc1).2.1
  have hb5 : kBy6 σ c1 5 < 2 ^ kA σ 61 0 := by show (kI σ 35 c1).toNat < _; omega
  have hv (r : Nat) (hr : r < 6) : iI (kV σ 0 0 (4 + 6 * c1 + r)) = nI (kBy6 σ c1 r) := hb.c hc1 hr
  refine xMet.of h0 (by decide +kernel) rfl ?_
  intro p e s m args below meth c hC hr hnm
  refine x_aloadr_n hC dX2_isFiredTold_0 (q := 1) rfl rfl ?_
  refine x_get hC xf_X2_9_1 dX2_isFiredTold_1 (q := 4) rfl (n := (0, 0)) rfl rfl ?_
  refine x_iload_n hC dX2_isFiredTold_4 (q := 5) rfl rfl ?_
  refine x_iconst hC dX2_isFiredTold_5 (q := 6) rfl (v := (1)) (by decide) ?_
  refine x_iadd hC dX2_isFiredTold_6 (q := 7) rfl ?_
  refine x_cald hC dX2_isFiredTold_7 (q := 8) rfl (n := (1, 0)) rfl (j := 4 + 6 * c1 + 1) (nI_add (4 + 6 * c1) 1) (by omega) (by decide) ?_
  refine x_sipush hC dX2_isFiredTold_8 (q := 11) rfl (v := (255)) (by decide) ?_
  refine x_icmp_ne hC dX2_isFiredTold_11 (q := 14) rfl (tgt := 70) rfl (fun h11 => ?_) (fun h11 => ?_)
  · exact absurd (by rw [hv 1 (by decide), hbn.1]; rfl) h11
  refine x_aloadr_n hC dX2_isFiredTold_14 (q := 15) rfl rfl ?_
  refine x_get hC xf_X2_9_1 dX2_isFiredTold_15 (q := 18) rfl (n := (0, 0)) rfl rfl ?_
  refine x_iload_n hC dX2_isFiredTold_18 (q := 19) rfl rfl ?_
  refine x_iconst hC dX2_isFiredTold_19 (q := 20) rfl (v := (2)) (by decide) ?_
  refine x_iadd hC dX2_isFiredTold_20 (q := 21) rfl ?_
  refine x_cald hC dX2_isFiredTold_21 (q := 22) rfl (n := (1, 0)) rfl (j := 4 + 6 * c1 + 2) (nI_add (4 + 6 * c1) 2) (by omega) (by decide) ?_
  refine x_sipush hC dX2_isFiredTold_22 (q := 25) rfl (v := (255)) (by decide) ?_
  refine x_icmp_ne hC dX2_isFiredTold_25 (q := 28) rfl (tgt := 70) rfl (fun h25 => ?_) (fun h25 => ?_)
  · exact absurd (by rw [hv 2 (by decide), hbn.2]; rfl) h25
  refine x_aloadr_n hC dX2_isFiredTold_28 (q := 29) rfl rfl ?_
  refine x_get hC xf_X2_9_1 dX2_isFiredTold_29 (q := 32) rfl (n := (0, 0)) rfl rfl ?_
  refine x_iload_n hC dX2_isFiredTold_32 (q := 33) rfl rfl ?_
  refine x_iconst hC dX2_isFiredTold_33 (q := 34) rfl (v := (3)) (by decide) ?_
  refine x_iadd hC dX2_isFiredTold_34 (q := 35) rfl ?_
  refine x_cald hC dX2_isFiredTold_35 (q := 36) rfl (n := (1, 0)) rfl (j := 4 + 6 * c1 + 3) (nI_add (4 + 6 * c1) 3) (by omega) (by decide) ?_
  refine x_bipush hC dX2_isFiredTold_36 (q := 38) rfl (v := (99)) (by decide) ?_
  refine x_icmp_gt hC dX2_isFiredTold_38 (q := 41) rfl (tgt := 70) rfl (fun h38 => ?_) (fun h38 => ?_)
  · exact absurd (show nI 99 < nI (kBy6 σ c1 3) by rw [← hv 3 (by decide)]; exact h38) (by rw [nI_ltI (by decide) (by omega)]; omega)
  refine x_aloadr_n hC dX2_isFiredTold_41 (q := 42) rfl rfl ?_
  refine x_get hC xf_X2_9_1 dX2_isFiredTold_42 (q := 45) rfl (n := (0, 0)) rfl rfl ?_
  refine x_iload_n hC dX2_isFiredTold_45 (q := 46) rfl rfl ?_
  refine x_iconst hC dX2_isFiredTold_46 (q := 47) rfl (v := (4)) (by decide) ?_
  refine x_iadd hC dX2_isFiredTold_47 (q := 48) rfl ?_
  refine x_cald hC dX2_isFiredTold_48 (q := 49) rfl (n := (1, 0)) rfl (j := 4 + 6 * c1 + 4) (nI_add (4 + 6 * c1) 4) (by omega) (by decide) ?_
  refine x_iconst hC dX2_isFiredTold_49 (q := 50) rfl (v := (1)) (by decide) ?_
  refine x_icmp_gt hC dX2_isFiredTold_50 (q := 53) rfl (tgt := 70) rfl (fun h50 => ?_) (fun h50 => ?_)
  · exact absurd (show nI 1 < nI (kBy6 σ c1 4) by rw [← hv 4 (by decide)]; exact h50) (by rw [nI_ltI (by decide) (by omega)]; omega)
  refine x_aloadr_n hC dX2_isFiredTold_53 (q := 54) rfl rfl ?_
  refine x_get hC xf_X2_9_1 dX2_isFiredTold_54 (q := 57) rfl (n := (0, 0)) rfl rfl ?_
  refine x_iload_n hC dX2_isFiredTold_57 (q := 58) rfl rfl ?_
  refine x_iconst hC dX2_isFiredTold_58 (q := 59) rfl (v := (5)) (by decide) ?_
  refine x_iadd hC dX2_isFiredTold_59 (q := 60) rfl ?_
  refine x_cald hC dX2_isFiredTold_60 (q := 61) rfl (n := (1, 0)) rfl (j := 4 + 6 * c1 + 5) (nI_add (4 + 6 * c1) 5) (by omega) (by decide) ?_
  refine x_iconst hC dX2_isFiredTold_61 (q := 62) rfl (v := (1)) (by decide) ?_
  refine x_aloadr_n hC dX2_isFiredTold_62 (q := 63) rfl rfl ?_
  refine x_callV hC xv_X2_351 dX2_isFiredTold_63 (q := 66) rfl rfl (m_X2_children h0 σ gF) (nn := (0, 0)) rfl rfl rfl (Nat.le_of_ble_eq_true rfl) ⟨(Nat.le_of_ble_eq_true rfl), (Nat.le_of_ble_eq_true rfl)⟩ ⟨(Nat.le_of_ble_eq_true rfl), (Nat.le_of_ble_eq_true rfl)⟩ (fun v g1 hp => ?_)
  obtain ⟨rfl, hg1⟩ := hp
  replace hg1 := hg1.symm
  subst hg1
  refine x_ishl hC dX2_isFiredTold_66 (q := 67) rfl ?_
  refine x_icmp_lt hC dX2_isFiredTold_67 (q := 70) rfl (tgt := 72) rfl (fun h67 => ?_) (fun h67 => ?_)
  · refine x_iload_n hC dX2_isFiredTold_72 (q := 73) rfl rfl ?_
    refine x_iconst hC dX2_isFiredTold_73 (q := 74) rfl (v := (4)) (by decide) ?_
    refine x_isub hC dX2_isFiredTold_74 (q := 75) rfl ?_
    refine x_bipush hC dX2_isFiredTold_75 (q := 77) rfl (v := (6)) (by decide) ?_
    refine x_idiv hC dX2_isFiredTold_77 (q := 78) rfl (by decide) ?_
    refine x_steq (st1 := [.int (nI c1)]) (by rw [show (4 : Int32) = nI 4 from rfl, nI_sub (by omega), show (6 : Int32) = nI 6 from rfl, pk_div (by omega) (by decide) (by decide), show (4 + 6 * c1 - 4) / 6 = c1 by omega]) ?_
    refine x_istore_n hC dX2_isFiredTold_78 (q := 79) rfl rfl ?_
    refine x_iconst hC dX2_isFiredTold_79 (q := 80) rfl (v := (0)) (by decide) ?_
    refine x_istore_n hC dX2_isFiredTold_80 (q := 81) rfl rfl ?_
    refine x_loop (S := (fun i : Nat => ((0 : Nat), (0 : Nat), kmix σ gF, ([some (.ref (kA σ 0 0)), some (.int (nI (4 + 6 * c1))), some (.int (nI c1)), some (.int (nI i))] : xL), ([] : List Value)))) (Inv := fun i => i ≤ kA σ 61 0) (μ := fun i => kA σ 61 0 - i) ?_ 0 (Nat.zero_le _)
    intro d1 hi ih
    dsimp only at hi ih ⊢
    refine x_iload_n hC dX2_isFiredTold_81 (q := 82) rfl rfl ?_
    refine x_aloadr_n hC dX2_isFiredTold_82 (q := 83) rfl rfl ?_
    refine x_callV hC xv_X2_351 dX2_isFiredTold_83 (q := 86) rfl rfl (m_X2_children h0 σ gF) (nn := (0, 0)) rfl rfl rfl (Nat.le_of_ble_eq_true rfl) ⟨(Nat.le_of_ble_eq_true rfl), (Nat.le_of_ble_eq_true rfl)⟩ ⟨(Nat.le_of_ble_eq_true rfl), (Nat.le_of_ble_eq_true rfl)⟩ (fun v g1 hp => ?_)
    obtain ⟨rfl, hg1⟩ := hp
    replace hg1 := hg1.symm
    subst hg1
    refine x_icmp_ge hC dX2_isFiredTold_86 (q := 89) rfl (tgt := 152) rfl (fun h86 => ?_) (fun h86 => ?_)
    · refine x_iconst hC dX2_isFiredTold_152 (q := 153) rfl (v := (1)) (by decide) ?_
      exact x_zret hC hr rfl dX2_isFiredTold_153 (Nat.le_of_ble_eq_true rfl) (Nat.le_of_ble_eq_true rfl) ⟨rfl, rfl⟩
    have hd1 : d1 < kA σ 61 0 := Nat.lt_of_not_le (fun q => h86 (nI_le q (by omega)))
    have hvd (r : Nat) (hr : r < 6) : iI (kV σ 0 0 (4 + 6 * d1 + r)) = nI (kBy6 σ d1 r) := hb.c hd1 hr
    refine x_aloadr_n hC dX2_isFiredTold_89 (q := 90) rfl rfl ?_
    refine x_get hC xf_X2_9_1 dX2_isFiredTold_90 (q := 93) rfl (n := (0, 0)) rfl rfl ?_
    refine x_iload_n hC dX2_isFiredTold_93 (q := 94) rfl rfl ?_
    refine x_iconst hC dX2_isFiredTold_94 (q := 95) rfl (v := (5)) (by decide) ?_
    refine x_iadd hC dX2_isFiredTold_95 (q := 96) rfl ?_
    refine x_cald hC dX2_isFiredTold_96 (q := 97) rfl (n := (1, 0)) rfl (j := 4 + 6 * c1 + 5) (nI_add (4 + 6 * c1) 5) (by omega) (by decide) ?_
    refine x_iload_n hC dX2_isFiredTold_97 (q := 98) rfl rfl ?_
    refine x_ishr hC dX2_isFiredTold_98 (q := 99) rfl ?_
    refine x_iconst hC dX2_isFiredTold_99 (q := 100) rfl (v := (1)) (by decide) ?_
    refine x_iand hC dX2_isFiredTold_100 (q := 101) rfl ?_
    refine x_iconst hC dX2_isFiredTold_101 (q := 102) rfl (v := (1)) (by decide) ?_
    refine x_icmp_ne hC dX2_isFiredTold_102 (q := 105) rfl (tgt := 146) rfl (fun h102 => ?_) (fun h102 => ?_)
    · refine x_iinc hC dX2_isFiredTold_146 (q := 149) rfl rfl (v := nI (d1 + 1)) (nI_1 d1) ?_
      refine x_goto hC dX2_isFiredTold_149 (tgt := 81) rfl ?_
      exact ih (d1 + 1) (by omega) (by omega)
    have hbit : bt (iI (kI σ 35 c1)) d1 = true := by
      have h2 := h102
      rw [hv 5 (by decide), show nI (kBy6 σ c1 5) = iI (kI σ 35 c1) from (by show nI (kI σ 35 c1).toNat = _; rw [← iI_nat, Int.toNat_of_nonneg (by omega)])] at h2
      exact (b_at _ (by omega)).mp h2
    obtain ⟨k1, k2, k3, k4⟩ := hsk d1 hbit
    refine x_iload_n hC dX2_isFiredTold_105 (q := 106) rfl rfl ?_
    refine x_iload_n hC dX2_isFiredTold_106 (q := 107) rfl rfl ?_
    refine x_icmp_eq hC dX2_isFiredTold_107 (q := 110) rfl (tgt := 144) rfl (fun h107 => ?_) (fun h107 => ?_)
    · exact absurd ((nI_eq (by omega) (by omega)).mp h107) k2
    refine x_aloadr_n hC dX2_isFiredTold_110 (q := 111) rfl rfl ?_
    refine x_get hC xf_X2_9_1 dX2_isFiredTold_111 (q := 114) rfl (n := (0, 0)) rfl rfl ?_
    refine x_iconst hC dX2_isFiredTold_114 (q := 115) rfl (v := (4)) (by decide) ?_
    refine x_bipush hC dX2_isFiredTold_115 (q := 117) rfl (v := (6)) (by decide) ?_
    refine x_iload_n hC dX2_isFiredTold_117 (q := 118) rfl rfl ?_
    refine x_imul hC dX2_isFiredTold_118 (q := 119) rfl ?_
    refine x_iadd hC dX2_isFiredTold_119 (q := 120) rfl ?_
    refine x_cald hC dX2_isFiredTold_120 (q := 121) rfl (n := (1, 0)) rfl (j := 4 + 6 * d1) (by rw [show (6 : Int32) = nI 6 from rfl, pk_mul]; exact nI_add 4 (6 * d1)) (by omega) (by decide) ?_
    refine x_iconst hC dX2_isFiredTold_121 (q := 122) rfl (v := (1)) (by decide) ?_
    refine x_icmp_ne hC dX2_isFiredTold_122 (q := 125) rfl (tgt := 144) rfl (fun h122 => ?_) (fun h122 => ?_)
    · exact absurd (by have h2 := hvd 0 (by decide); rw [(kBy6_fired (hn.1 d1 hd1).1 k3).1] at h2; exact h2) h122
    refine x_aloadr_n hC dX2_isFiredTold_125 (q := 126) rfl rfl ?_
    refine x_get hC xf_X2_9_1 dX2_isFiredTold_126 (q := 129) rfl (n := (0, 0)) rfl rfl ?_
    refine x_bipush hC dX2_isFiredTold_129 (q := 131) rfl (v := (9)) (by decide) ?_
    refine x_bipush hC dX2_isFiredTold_131 (q := 133) rfl (v := (6)) (by decide) ?_
    refine x_iload_n hC dX2_isFiredTold_133 (q := 134) rfl rfl ?_
    refine x_imul hC dX2_isFiredTold_134 (q := 135) rfl ?_
    refine x_iadd hC dX2_isFiredTold_135 (q := 136) rfl ?_
    refine x_cald hC dX2_isFiredTold_136 (q := 137) rfl (n := (1, 0)) rfl (j := 4 + 6 * d1 + 5) (by rw [show (6 : Int32) = nI 6 from rfl, pk_mul, show 4 + 6 * d1 + 5 = 9 + 6 * d1 by omega]; exact nI_add 9 (6 * d1)) (by omega) (by decide) ?_
    refine x_iload_n hC dX2_isFiredTold_137 (q := 138) rfl rfl ?_
    refine x_ishr hC dX2_isFiredTold_138 (q := 139) rfl ?_
    refine x_iconst hC dX2_isFiredTold_139 (q := 140) rfl (v := (1)) (by decide) ?_
    refine x_iand hC dX2_isFiredTold_140 (q := 141) rfl ?_
    refine x_if_ne hC dX2_isFiredTold_141 (q := 144) rfl (tgt := 146) rfl (fun h141 => ?_) (fun h141 => ?_)
    · refine x_iinc hC dX2_isFiredTold_146 (q := 149) rfl rfl (v := nI (d1 + 1)) (nI_1 d1) ?_
      refine x_goto hC dX2_isFiredTold_149 (tgt := 81) rfl ?_
      exact ih (d1 + 1) (by omega) (by omega)
    · exfalso
      have h2 := h141
      rw [hvd 5 (by decide), show nI (kBy6 σ d1 5) = iI (kI σ 35 d1) from (by show nI (kI σ 35 d1).toNat = _; rw [← iI_nat, Int.toNat_of_nonneg (hn.1 d1 hd1).2.1.1]), (b_at _ (by omega)).mpr k4] at h2
      exact absurd h2 (by decide)
  · exact absurd (show iI (kV σ 0 0 (4 + 6 * c1 + 5)) < (1 : Int32) <<< (nI (kA σ 61 0) &&& 31) by rw [hv 5 (by decide), one_shl _ (by omega)]; exact nI_lt hb5 (Nat.lt_of_le_of_lt (Nat.pow_le_pow_right (by decide) h61) (by decide))) h67

set_option maxHeartbeats 4000000 in
set_option maxRecDepth 100000 in
theorem m_isTold {l : Launch} {s0 : State} {D : va_G} (h0 : x0 l s0 D) (σ : KS) (gF : xG) (hw : KW σ) (hp : KPl σ) (hb : KTp σ) (hn : KNb σ) (hsk : KSk σ) (h3 : 0 ≤ kI σ 3 0 ∧ kI σ 3 0 ≤ 999) (h7 : 0 ≤ kI σ 7 0 ∧ kI σ 7 0 ≤ 9999) : xMet l s0 D yX2_isTold cX2_isTold 4 (some .boolean) (xr 6 0 0 130) [.ref (kA σ 0 0), .int (nI (kIml σ + 1))] (kmix σ gF) (fun r g1 => r = some (.int 1) ∧ g1 = kmix σ gF) := by
  have h61 := hw.1
  have h62 := hw.2.1
  refine xMet.of h0 (by decide +kernel) rfl ?_
  intro p e s m args below meth c hC hr hnm
  refine x_iconst hC dX2_isTold_0 (q := 1) rfl (v := (4)) (by decide) ?_
  refine x_bipush hC dX2_isTold_1 (q := 3) rfl (v := (6)) (by decide) ?_
  refine x_aloadr_n hC dX2_isTold_3 (q := 4) rfl rfl ?_
  refine x_callV hC xv_X2_351 dX2_isTold_4 (q := 7) rfl rfl (m_X2_children h0 σ gF) (nn := (0, 0)) rfl rfl rfl (Nat.le_of_ble_eq_true rfl) ⟨(Nat.le_of_ble_eq_true rfl), (Nat.le_of_ble_eq_true rfl)⟩ ⟨(Nat.le_of_ble_eq_true rfl), (Nat.le_of_ble_eq_true rfl)⟩ (fun v g1 hp => ?_)
  obtain ⟨rfl, hg1⟩ := hp
  replace hg1 := hg1.symm
  subst hg1
  refine x_imul hC dX2_isTold_7 (q := 8) rfl ?_
  refine x_iadd hC dX2_isTold_8 (q := 9) rfl ?_
  refine x_steq (st1 := [.int (nI (4 + 6 * kA σ 61 0))]) (by rw [show (6 : Int32) = nI 6 from rfl, pk_mul]; show [Value.int (nI 4 + nI (6 * kA σ 61 0))] = _; rw [nI_add]) ?_
  refine x_istore_n hC dX2_isTold_9 (q := 10) rfl rfl ?_
  refine x_iload_n hC dX2_isTold_10 (q := 11) rfl rfl ?_
  refine x_iload_n hC dX2_isTold_11 (q := 12) rfl rfl ?_
  refine x_aloadr_n hC dX2_isTold_12 (q := 13) rfl rfl ?_
  refine x_callV hC xv_X2_232 dX2_isTold_13 (q := 16) rfl rfl (m_X2_kilns h0 σ gF) (nn := (0, 0)) rfl rfl rfl (Nat.le_of_ble_eq_true rfl) ⟨(Nat.le_of_ble_eq_true rfl), (Nat.le_of_ble_eq_true rfl)⟩ ⟨(Nat.le_of_ble_eq_true rfl), (Nat.le_of_ble_eq_true rfl)⟩ (fun v g1 hp => ?_)
  obtain ⟨rfl, hg1⟩ := hp
  replace hg1 := hg1.symm
  subst hg1
  refine x_iadd hC dX2_isTold_16 (q := 17) rfl ?_
  refine x_iconst hC dX2_isTold_17 (q := 18) rfl (v := (1)) (by decide) ?_
  refine x_iadd hC dX2_isTold_18 (q := 19) rfl ?_
  refine x_icmp_ne hC dX2_isTold_19 (q := 22) rfl (tgt := 65) rfl (fun h19 => ?_) (fun h19 => ?_)
  · exact absurd (by show nI (kIml σ + 1) = nI (4 + 6 * kA σ 61 0) + nI (kA σ 62 0) + nI 1; rw [nI_add, nI_add]; rfl) h19
  refine x_aloadr_n hC dX2_isTold_22 (q := 23) rfl rfl ?_
  refine x_get hC xf_X2_9_1 dX2_isTold_23 (q := 26) rfl (n := (0, 0)) rfl rfl ?_
  refine x_iload_n hC dX2_isTold_26 (q := 27) rfl rfl ?_
  refine x_iconst hC dX2_isTold_27 (q := 28) rfl (v := (1)) (by decide) ?_
  refine x_isub hC dX2_isTold_28 (q := 29) rfl ?_
  refine x_cald hC dX2_isTold_29 (q := 30) rfl (n := (1, 0)) rfl (j := kIml σ) (by rw [show (1 : Int32) = nI 1 from rfl, nI_sub (by omega)]; rfl) (by unfold kIml; omega) (by decide) ?_
  refine x_aloadr_n hC dX2_isTold_30 (q := 31) rfl rfl ?_
  refine x_get hC xf_X2_9_1 dX2_isTold_31 (q := 34) rfl (n := (0, 0)) rfl rfl ?_
  refine x_iload_n hC dX2_isTold_34 (q := 35) rfl rfl ?_
  refine x_iconst hC dX2_isTold_35 (q := 36) rfl (v := (1)) (by decide) ?_
  refine x_isub hC dX2_isTold_36 (q := 37) rfl ?_
  refine x_steq (st1 := [.int (nI (kIml σ)), .ref (kA σ 1 0), .int (iI (kV σ 0 0 (kIml σ)))]) (by rw [show (1 : Int32) = nI 1 from rfl, nI_sub (by omega)]; rfl) ?_
  refine x_callS hC xv_X2_462 dX2_isTold_37 (q := 40) rfl rfl (m_X2_last h0 (kmix σ gF) (nn := (1, 0)) (a := kA σ 1 0) (N := 1600) (v := kV σ 0 0) rfl (kIml σ) (by unfold kIml; omega) (by decide) (kByt σ) (fun j hj => ⟨hb.b hj, kByt_lt hw hp hn h3 h7 hj⟩)) rfl (Nat.le_of_ble_eq_true rfl) ⟨(Nat.le_of_ble_eq_true rfl), (Nat.le_of_ble_eq_true rfl)⟩ ⟨(Nat.le_of_ble_eq_true rfl), (Nat.le_of_ble_eq_true rfl)⟩ (fun v g1 hp => ?_)
  obtain ⟨rfl, hg1⟩ := hp
  replace hg1 := hg1.symm
  subst hg1
  refine x_icmp_ne hC dX2_isTold_40 (q := 43) rfl (tgt := 65) rfl (fun h40 => ?_) (fun h40 => ?_)
  · exact absurd (by rw [hb (kIml σ) (by omega), iI_nat]; unfold kIb; rw [if_neg (by omega)]) h40
  refine x_aloadr_n hC dX2_isTold_43 (q := 44) rfl rfl ?_
  refine x_iconst hC dX2_isTold_44 (q := 45) rfl (v := (0)) (by decide) ?_
  refine x_callV hC xv_X2_466 dX2_isTold_45 (q := 48) rfl rfl (m_X2_twoAt h0 σ gF 0 (by decide) (x := (kI σ 3 0).toNat / 256) (y := (kI σ 3 0).toNat % 256) (by rw [hb.b (by unfold kIml; omega)]; unfold kByt; rw [if_pos (by omega), if_pos (by decide), if_pos rfl]) (by rw [hb.b (by unfold kIml; omega)]; unfold kByt; rw [if_pos (by omega), if_pos (by decide), if_neg (by decide)])) (nn := (0, 0)) rfl rfl rfl (Nat.le_of_ble_eq_true rfl) ⟨(Nat.le_of_ble_eq_true rfl), (Nat.le_of_ble_eq_true rfl)⟩ ⟨(Nat.le_of_ble_eq_true rfl), (Nat.le_of_ble_eq_true rfl)⟩ (fun v g1 hp => ?_)
  obtain ⟨rfl, hg1⟩ := hp
  replace hg1 := hg1.symm
  subst hg1
  refine x_sipush hC dX2_isTold_48 (q := 51) rfl (v := (999)) (by decide) ?_
  refine x_icmp_gt hC dX2_isTold_51 (q := 54) rfl (tgt := 65) rfl (fun h51 => ?_) (fun h51 => ?_)
  · exact absurd (show nI 999 < nI (256 * ((kI σ 3 0).toNat / 256) + (kI σ 3 0).toNat % 256) from h51) (by rw [nI_ltI (by decide) (by omega)]; omega)
  refine x_aloadr_n hC dX2_isTold_54 (q := 55) rfl rfl ?_
  refine x_iconst hC dX2_isTold_55 (q := 56) rfl (v := (2)) (by decide) ?_
  refine x_callV hC xv_X2_466 dX2_isTold_56 (q := 59) rfl rfl (m_X2_twoAt h0 σ gF 2 (by decide) (x := (kI σ 7 0).toNat / 256) (y := (kI σ 7 0).toNat % 256) (by rw [hb.b (by unfold kIml; omega)]; unfold kByt; rw [if_pos (by omega), if_neg (by decide), if_pos (by decide), if_pos rfl]) (by rw [hb.b (by unfold kIml; omega)]; unfold kByt; rw [if_pos (by omega), if_neg (by decide), if_pos (by decide), if_neg (by decide)])) (nn := (0, 0)) rfl rfl rfl (Nat.le_of_ble_eq_true rfl) ⟨(Nat.le_of_ble_eq_true rfl), (Nat.le_of_ble_eq_true rfl)⟩ ⟨(Nat.le_of_ble_eq_true rfl), (Nat.le_of_ble_eq_true rfl)⟩ (fun v g1 hp => ?_)
  obtain ⟨rfl, hg1⟩ := hp
  replace hg1 := hg1.symm
  subst hg1
  refine x_sipush hC dX2_isTold_59 (q := 62) rfl (v := (9999)) (by decide) ?_
  refine x_icmp_le hC dX2_isTold_62 (q := 65) rfl (tgt := 67) rfl (fun h62 => ?_) (fun h62 => ?_)
  · refine x_iconst hC dX2_isTold_67 (q := 68) rfl (v := (4)) (by decide) ?_
    refine x_istore_n hC dX2_isTold_68 (q := 69) rfl rfl ?_
    refine x_loop (S := (fun i : Nat => ((0 : Nat), (0 : Nat), kmix σ gF, ([some (.ref (kA σ 0 0)), some (.int (nI (kIml σ + 1))), some (.int (nI (4 + 6 * kA σ 61 0))), some (.int (nI (4 + 6 * i)))] : xL), ([] : List Value)))) (Inv := fun i => i ≤ kA σ 61 0) (μ := fun i => kA σ 61 0 - i) ?_ 0 (Nat.zero_le _)
    intro c1 hi ih
    dsimp only at hi ih ⊢
    refine x_iload_n hC dX2_isTold_69 (q := 70) rfl rfl ?_
    refine x_iload_n hC dX2_isTold_70 (q := 71) rfl rfl ?_
    refine x_icmp_ge hC dX2_isTold_71 (q := 74) rfl (tgt := 120) rfl (fun h71 => ?_) (fun h71 => ?_)
    · have hc3 : c1 = kA σ 61 0 := by
        have := (nI_leI (by omega) (by omega)).mp h71
        omega
      clear ih
      refine x_iload_n hC dX2_isTold_120 (q := 121) rfl rfl ?_
      refine x_istore_n hC dX2_isTold_121 (q := 122) rfl rfl ?_
      refine x_loop (S := (fun i : Nat => ((0 : Nat), (0 : Nat), kmix σ gF, ([some (.ref (kA σ 0 0)), some (.int (nI (kIml σ + 1))), some (.int (nI (4 + 6 * kA σ 61 0))), some (.int (nI (4 + 6 * kA σ 61 0 + i)))] : xL), ([] : List Value)))) (Inv := fun i => i ≤ kA σ 62 0) (μ := fun i => kA σ 62 0 - i) ?_ 0 (Nat.zero_le _)
      intro q1 hi2 ih2
      dsimp only at hi2 ih2 ⊢
      refine x_iload_n hC dX2_isTold_122 (q := 123) rfl rfl ?_
      refine x_iload_n hC dX2_isTold_123 (q := 124) rfl rfl ?_
      refine x_iconst hC dX2_isTold_124 (q := 125) rfl (v := (1)) (by decide) ?_
      refine x_isub hC dX2_isTold_125 (q := 126) rfl ?_
      refine x_icmp_ge hC dX2_isTold_126 (q := 129) rfl (tgt := 160) rfl (fun h126 => ?_) (fun h126 => ?_)
      · refine x_iconst hC dX2_isTold_160 (q := 161) rfl (v := (1)) (by decide) ?_
        exact x_zret hC hr rfl dX2_isTold_161 (Nat.le_of_ble_eq_true rfl) (Nat.le_of_ble_eq_true rfl) ⟨rfl, rfl⟩
      have hq1 : q1 < kA σ 62 0 := by
        have h2 : ¬ nI (kIml σ) ≤ nI (4 + 6 * kA σ 61 0 + q1) := by
          have h3 := h126
          rw [show (1 : Int32) = nI 1 from rfl, nI_sub (by omega)] at h3
          exact h3
        rw [nI_leI (by unfold kIml; omega) (by omega)] at h2
        unfold kIml at h2
        omega
      have hvq : iI (kV σ 0 0 (4 + 6 * kA σ 61 0 + q1)) = nI (k255 (kI σ 41 q1)) := hb.q hq1
      have hnq := hn.2 q1 hq1
      refine x_aloadr_n hC dX2_isTold_129 (q := 130) rfl rfl ?_
      refine x_get hC xf_X2_9_1 dX2_isTold_130 (q := 133) rfl (n := (0, 0)) rfl rfl ?_
      refine x_iload_n hC dX2_isTold_133 (q := 134) rfl rfl ?_
      refine x_cald hC dX2_isTold_134 (q := 135) rfl (n := (1, 0)) rfl (j := 4 + 6 * kA σ 61 0 + q1) rfl (by omega) (by decide) ?_
      refine x_bipush hC dX2_isTold_135 (q := 137) rfl (v := (20)) (by decide) ?_
      refine x_icmp_le hC dX2_isTold_137 (q := 140) rfl (tgt := 154) rfl (fun h137 => ?_) (fun h137 => ?_)
      · refine x_iinc hC dX2_isTold_154 (q := 157) rfl rfl (v := nI (4 + 6 * kA σ 61 0 + (q1 + 1))) (nI_1 _) ?_
        refine x_goto hC dX2_isTold_157 (tgt := 122) rfl ?_
        exact ih2 (q1 + 1) (by omega) (by omega)
      refine x_aloadr_n hC dX2_isTold_140 (q := 141) rfl rfl ?_
      refine x_get hC xf_X2_9_1 dX2_isTold_141 (q := 144) rfl (n := (0, 0)) rfl rfl ?_
      refine x_iload_n hC dX2_isTold_144 (q := 145) rfl rfl ?_
      refine x_cald hC dX2_isTold_145 (q := 146) rfl (n := (1, 0)) rfl (j := 4 + 6 * kA σ 61 0 + q1) rfl (by omega) (by decide) ?_
      refine x_sipush hC dX2_isTold_146 (q := 149) rfl (v := (255)) (by decide) ?_
      refine x_icmp_eq hC dX2_isTold_149 (q := 152) rfl (tgt := 154) rfl (fun h149 => ?_) (fun h149 => ?_)
      · refine x_iinc hC dX2_isTold_154 (q := 157) rfl rfl (v := nI (4 + 6 * kA σ 61 0 + (q1 + 1))) (nI_1 _) ?_
        refine x_goto hC dX2_isTold_157 (tgt := 122) rfl ?_
        exact ih2 (q1 + 1) (by omega) (by omega)
      · exfalso
        by_cases e : kI σ 41 q1 = -1
        · exact h149 (by rw [hvq, e]; rfl)
        · refine h137 (show _ ≤ nI 20 from ?_)
          rw [hvq, show k255 (kI σ 41 q1) = (kI σ 41 q1).toNat from if_neg e]
          exact nI_le (by omega) (by decide)
    have hc1 : c1 < kA σ 61 0 := by
      have h2 : ¬ nI (4 + 6 * kA σ 61 0) ≤ nI (4 + 6 * c1) := h71
      rw [nI_leI (by omega) (by omega)] at h2
      omega
    have hv0 : iI (kV σ 0 0 (4 + 6 * c1)) = nI (kBy6 σ c1 0) := hb.c hc1 (r := 0) (by decide)
    obtain ⟨s1, s2, s3, s4⟩ := hsk c1 hc1
    refine x_aloadr_n hC dX2_isTold_74 (q := 75) rfl rfl ?_
    refine x_get hC xf_X2_9_1 dX2_isTold_75 (q := 78) rfl (n := (0, 0)) rfl rfl ?_
    refine x_iload_n hC dX2_isTold_78 (q := 79) rfl rfl ?_
    refine x_cald hC dX2_isTold_79 (q := 80) rfl (n := (1, 0)) rfl (j := 4 + 6 * c1) rfl (by omega) (by decide) ?_
    refine x_iconst hC dX2_isTold_80 (q := 81) rfl (v := (1)) (by decide) ?_
    refine x_icmp_gt hC dX2_isTold_81 (q := 84) rfl (tgt := 112) rfl (fun h81 => ?_) (fun h81 => ?_)
    · exact absurd (show nI 1 < nI (kBy6 σ c1 0) by rw [← hv0]; exact h81) (by rw [nI_ltI (by decide) (Nat.lt_trans (kBy6_lt hw hp hn hc1 0) (by decide))]; show ¬ 1 < (if iI (kI σ 34 c1) = -1 then 0 else 1); split <;> omega)
    refine x_aloadr_n hC dX2_isTold_84 (q := 85) rfl rfl ?_
    refine x_get hC xf_X2_9_1 dX2_isTold_85 (q := 88) rfl (n := (0, 0)) rfl rfl ?_
    refine x_iload_n hC dX2_isTold_88 (q := 89) rfl rfl ?_
    refine x_cald hC dX2_isTold_89 (q := 90) rfl (n := (1, 0)) rfl (j := 4 + 6 * c1) rfl (by omega) (by decide) ?_
    refine x_if_ne hC dX2_isTold_90 (q := 93) rfl (tgt := 104) rfl (fun h90 => ?_) (fun h90 => ?_)
    · have hfd : kI σ 34 c1 ≠ -1 := fun q => h90 (by rw [hv0, (kBy6_raw q (s1 q)).1]; rfl)
      have hkn : kO σ 0 c1 0 = none := by
        cases hk : kO σ 0 c1 0 with
        | none => rfl
        | some q => exact absurd (s2 (by rw [hk]; intro w; cases w)) hfd
      refine x_aloadr_n hC dX2_isTold_104 (q := 105) rfl rfl ?_
      refine x_iload_n hC dX2_isTold_105 (q := 106) rfl rfl ?_
      refine x_callV hC xv_X2_472 dX2_isTold_106 (q := 109) rfl rfl (m_isFiredTold h0 σ gF hw hp hb hn c1 hc1 hfd hkn s3 s4) (nn := (0, 0)) rfl rfl rfl (Nat.le_of_ble_eq_true rfl) ⟨(Nat.le_of_ble_eq_true rfl), (Nat.le_of_ble_eq_true rfl)⟩ ⟨(Nat.le_of_ble_eq_true rfl), (Nat.le_of_ble_eq_true rfl)⟩ (fun v g1 hp => ?_)
      obtain ⟨rfl, hg1⟩ := hp
      replace hg1 := hg1.symm
      subst hg1
      refine x_if_ne hC dX2_isTold_109 (q := 112) rfl (tgt := 114) rfl (fun h109 => ?_) (fun h109 => ?_)
      · refine x_iinc hC dX2_isTold_114 (q := 117) rfl rfl (v := nI (4 + 6 * (c1 + 1))) (nI_add (4 + 6 * c1) 6) ?_
        refine x_goto hC dX2_isTold_117 (tgt := 69) rfl ?_
        exact ih (c1 + 1) (by omega) (by omega)
      · exact absurd h109 (by decide)
    have hrw : kI σ 34 c1 = -1 := Decidable.byContradiction (fun q => by
      have h2 := h90
      rw [hv0, (kBy6_fired (hn.1 c1 hc1).1 q).1] at h2
      exact absurd h2 (by decide))
    refine x_aloadr_n hC dX2_isTold_93 (q := 94) rfl rfl ?_
    refine x_iload_n hC dX2_isTold_94 (q := 95) rfl rfl ?_
    refine x_callV hC xv_X2_469 dX2_isTold_95 (q := 98) rfl rfl (m_isRawTold h0 σ gF hw hp hb c1 hc1 hrw (s1 hrw) hn) (nn := (0, 0)) rfl rfl rfl (Nat.le_of_ble_eq_true rfl) ⟨(Nat.le_of_ble_eq_true rfl), (Nat.le_of_ble_eq_true rfl)⟩ ⟨(Nat.le_of_ble_eq_true rfl), (Nat.le_of_ble_eq_true rfl)⟩ (fun v g1 hp => ?_)
    obtain ⟨rfl, hg1⟩ := hp
    replace hg1 := hg1.symm
    subst hg1
    refine x_if_eq hC dX2_isTold_98 (q := 101) rfl (tgt := 112) rfl (fun h98 => ?_) (fun h98 => ?_)
    · exact absurd h98 (by decide)
    refine x_goto hC dX2_isTold_101 (tgt := 114) rfl ?_
    refine x_iinc hC dX2_isTold_114 (q := 117) rfl rfl (v := nI (4 + 6 * (c1 + 1))) (nI_add (4 + 6 * c1) 6) ?_
    refine x_goto hC dX2_isTold_117 (tgt := 69) rfl ?_
    exact ih (c1 + 1) (by omega) (by omega)
  · exact absurd (show nI (256 * ((kI σ 7 0).toNat / 256) + (kI σ 7 0).toNat % 256) ≤ nI 9999 from nI_le (by omega) (by decide)) h62
