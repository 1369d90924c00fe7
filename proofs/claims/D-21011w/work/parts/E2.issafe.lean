/-! isSafe -/

set_option maxHeartbeats 4000000 in
set_option maxRecDepth 100000 in
theorem m_X0_isSafe {l : Launch} {s0 : State} {D : va_G} (h0 : x0 l s0 D) (σ : KS) (gF : xG) (f : aEnv) {ad aa d0 : Nat} {α : aA} {I : Nat → Int32} {V : Nat → Nat → Int32} {M : Nat → Nat → Nat → Int32} {R : Nat} (hD : DW gF ad I V M) (hA : AH gF aa α) (hok : aOk α) (hl : LT σ α) (hG : KSt gF (aFo α) d0 σ) (hFo : KFo s0 gF d0) (hAI : AI (aFo α) σ V M R (aI α 1) (aI α 0)) {q : Nat} (hq : q < aI α 1) (b : Int32) (hBest : ¬ b = 0 → aRo α q ≤ 4 → ∀ (f : aEnv) (sf : Int32), kSfA (aFo α) σ q sf → xMet l s0 D yX0_isBest cX0_isBest 11 (some .boolean) (xr 50 2900 17500 2200) [.ref (kA σ 0 0), .ref aa, .ref ad, .int (nI q), .int sf] (kmix (kT σ f) gF) (fun r g1 => ∃ f1, r = some (.int 1) ∧ g1 = kmix (kT σ f1) gF)) : xMet l s0 D yX0_isSafe cX0_isSafe 11 (some .boolean) (xr 51 3300 20000 2300) [.ref (kA σ 0 0), .ref aa, .ref ad, .int (nI q), .int b] (kmix (kT σ f) gF) (fun r g1 => ∃ f1, r = some (.int 1) ∧ g1 = kmix (kT σ f1) gF) := by
  obtain ⟨ra, rr, hd0', hd3', hd6', -, -, -, -, -, -⟩ := id hD
  obtain ⟨ca, ga, rm, hat', hac', hag', har'⟩ := id hA
  obtain ⟨hF, hv, hpP, hNb, -, -, -, h63, -⟩ := id hG
  have hw := hv.1
  have hb0 := hok.1
  have hb1 := hok.2.1
  have hd0 : ∀ f, kmix (kT σ f) gF (120, 0) = _ := fun f => (kmix_F _ _ _ rfl).trans hd0'
  have hd3 : ∀ f k, 5 ≤ k → k < 10 → kmix (kT σ f) gF (116 + k, 0) = some (ra k, xAi .int 3 (V k)) := fun f k a b => (kmix_F _ _ _ (bf40 (by dsimp only; omega))).trans (hd3' k a b)
  have hd6 : ∀ f k, 10 ≤ k → k < 15 → kmix (kT σ f) gF (116 + k, 0) = some (ra k, xAi .int 6 (V k)) := fun f k a b => (kmix_F _ _ _ (bf40 (by dsimp only; omega))).trans (hd6' k a b)
  have hat : ∀ f, kmix (kT σ f) gF (101, 0) = _ := fun f => (kmix_F _ _ _ rfl).trans hat'
  have har : ∀ f, kmix (kT σ f) gF (104, 0) = _ := fun f => (kmix_F _ _ _ rfl).trans har'
  have hK : ∀ c, c < aI α 0 → V 10 c = kKil σ c ∧ V 11 c = iI (kI σ 33 c) := fun c hc => ⟨(hAI.2.2 c hc).1.1.1, (hAI.2.2 c hc).1.1.2.1⟩
  have hq2 : q < kA σ 62 0 := by rw [hl.2.1]; exact hq
  refine xMet.of h0 (by decide +kernel) rfl ?_
  intro zp ze zs zm za zb zf zc hC hr hnm
  refine x_iconst hC dX0_isSafe_0 (q := 1) rfl (v := (-1)) (by decide) ?_
  refine x_istore hC dX0_isSafe_1 (q := 3) rfl rfl ?_
  refine x_iconst hC dX0_isSafe_3 (q := 4) rfl (v := (0)) (by decide) ?_
  refine x_istore hC dX0_isSafe_4 (q := 6) rfl rfl ?_
  refine x_loop (S := (fun x : Nat × aEnv × Int32 × Option Value × Option Value × Option Value × Option Value => ((0 : Nat), (0 : Nat), kmix (kT σ x.2.1) gF, ([some (.ref (kA σ 0 0)), some (.ref aa), some (.ref ad), some (.int (nI q)), some (.int b), some (.int x.2.2.1), some (.int (nI x.1)), x.2.2.2.1, x.2.2.2.2.1, x.2.2.2.2.2.1, x.2.2.2.2.2.2] : xL), ([] : List Value)))) (Inv := fun x => x.1 ≤ 21 ∧ (x.1 = 0 ∨ ¬ kFull σ q = 0) ∧ kSfN (aFo α) σ q x.1 x.2.2.1) (μ := fun x => 21 - x.1) ?_ (0, f, -1, none, none, none, none) ⟨Nat.zero_le _, Or.inl rfl, Or.inl ⟨rfl, fun j hj => absurd hj (Nat.not_lt_zero j)⟩⟩
  intro x hi ih
  obtain ⟨h, f, sf, u7, u8, u9, u10⟩ := x
  obtain ⟨hi, hi0, hSf⟩ := hi
  dsimp only at hi hi0 hSf ih ⊢
  refine x_iload hC dX0_isSafe_6 (q := 8) rfl rfl ?_
  refine x_bipush hC dX0_isSafe_8 (q := 10) rfl (v := (20)) (by decide) ?_
  refine x_icmp_gt hC dX0_isSafe_10 (q := 13) rfl (tgt := 180) rfl (fun h10 => ?_) (fun h10 => ?_)
  · have hh21 : h = 21 := by
      have := (nI_ltI (a := 20) (b := h) (by decide) (by omega)).mp h10
      omega
    subst hh21
    have hSA : kSfA (aFo α) σ q sf := Or.inr ⟨hi0.resolve_left (by omega), hSf⟩
    refine x_aloadr_n hC dX0_isSafe_180 (q := 181) rfl rfl ?_
    refine x_iload_n hC dX0_isSafe_181 (q := 182) rfl rfl ?_
    refine x_callV hC xv_X0_134 dX0_isSafe_182 (q := 185) rfl rfl (m_safe h0 σ gF _ hF hv hFo.NB q hq2) (nn := (0, 0)) rfl rfl rfl (Nat.le_of_ble_eq_true rfl) ⟨(by (try dsimp only); omega), (by (try dsimp only); omega)⟩ ⟨(by (try dsimp only); omega), (by (try dsimp only); omega)⟩ (fun v g1 hp => ?_)
    obtain ⟨f5, xs, rfl, hSB, hg1⟩ := hp
    subst hg1
    rw [hSB.uniq hSA]
    refine x_iload hC dX0_isSafe_185 (q := 187) rfl rfl ?_
    refine x_icmp_ne hC dX0_isSafe_187 (q := 190) rfl (tgt := 221) rfl (fun h187 => ?_) (fun h187 => ?_)
    · exact absurd rfl h187
    refine x_iload hC dX0_isSafe_190 (q := 192) rfl rfl ?_
    refine x_if_eq hC dX0_isSafe_192 (q := 195) rfl (tgt := 217) rfl (fun h192 => ?_) (fun h192 => ?_)
    · have hx192 := h192
      refine x_iconst hC dX0_isSafe_217 (q := 218) rfl (v := (1)) (by decide) ?_
      refine x_goto hC dX0_isSafe_218 (tgt := 222) rfl ?_
      exact x_zret hC hr rfl dX0_isSafe_222 (by (try dsimp only); omega) (by (try dsimp only); omega) ⟨_, rfl, rfl⟩
    refine x_aloadr_n hC dX0_isSafe_195 (q := 196) rfl rfl ?_
    refine x_get hC xf_X0_69_0 dX0_isSafe_196 (q := 199) rfl (n := (101, 0)) (hat _) rfl ?_
    refine x_iload_n hC dX0_isSafe_199 (q := 200) rfl rfl ?_
    refine x_iald hC dX0_isSafe_200 (q := 201) rfl (n := (104, 0)) (har _) (j := q) rfl (by omega) (by decide) ?_
    refine x_iconst hC dX0_isSafe_201 (q := 202) rfl (v := (4)) (by decide) ?_
    rw [aF_lt hq]
    refine x_icmp_gt hC dX0_isSafe_202 (q := 205) rfl (tgt := 217) rfl (fun h202 => ?_) (fun h202 => ?_)
    · have hx202 := h202
      refine x_iconst hC dX0_isSafe_217 (q := 218) rfl (v := (1)) (by decide) ?_
      refine x_goto hC dX0_isSafe_218 (tgt := 222) rfl ?_
      exact x_zret hC hr rfl dX0_isSafe_222 (by (try dsimp only); omega) (by (try dsimp only); omega) ⟨_, rfl, rfl⟩
    have hro4 : aRo α q ≤ 4 := Nat.not_lt.mp (fun w => h202 (nI_lt (a := 4) w (by have := (hok.2.2.2.2.2.2.2.2.2.2.2 q).2; omega)))
    refine x_aloadr_n hC dX0_isSafe_205 (q := 206) rfl rfl ?_
    refine x_aloadr_n hC dX0_isSafe_206 (q := 207) rfl rfl ?_
    refine x_aloadr_n hC dX0_isSafe_207 (q := 208) rfl rfl ?_
    refine x_iload_n hC dX0_isSafe_208 (q := 209) rfl rfl ?_
    refine x_iload hC dX0_isSafe_209 (q := 211) rfl rfl ?_
    refine x_callS hC xv_X0_137 dX0_isSafe_211 (q := 214) rfl rfl (hBest h192 hro4 f5 sf hSA) rfl (Nat.le_of_ble_eq_true rfl) ⟨(by (try dsimp only); omega), (by (try dsimp only); omega)⟩ ⟨(by (try dsimp only); omega), (by (try dsimp only); omega)⟩ (fun v g1 hp => ?_)
    obtain ⟨f6, rfl, hg1⟩ := hp
    subst hg1
    refine x_if_eq hC dX0_isSafe_214 (q := 217) rfl (tgt := 221) rfl (fun h214 => ?_) (fun h214 => ?_)
    · exact absurd h214 (by decide)
    refine x_iconst hC dX0_isSafe_217 (q := 218) rfl (v := (1)) (by decide) ?_
    refine x_goto hC dX0_isSafe_218 (tgt := 222) rfl ?_
    exact x_zret hC hr rfl dX0_isSafe_222 (by (try dsimp only); omega) (by (try dsimp only); omega) ⟨_, rfl, rfl⟩
  have hh20 : h ≤ 20 := Nat.not_lt.mp (fun w => h10 (nI_lt (a := 20) w (by omega)))
  refine x_aloadr_n hC dX0_isSafe_13 (q := 14) rfl rfl ?_
  refine x_get hC xf_X0_115_16 dX0_isSafe_14 (q := 17) rfl (n := (120, 0)) (hd0 _) rfl ?_
  refine x_iload_n hC dX0_isSafe_17 (q := 18) rfl rfl ?_
  refine x_iald hC dX0_isSafe_18 (q := 19) rfl (n := (122, 0)) (hd3 _ 6 (by decide) (by decide)) (j := q) rfl (by omega) (by decide) ?_
  rw [(hAI.2.1 q hq).2.1]
  refine x_if_le hC dX0_isSafe_19 (q := 22) rfl (tgt := 180) rfl (fun h19 => ?_) (fun h19 => ?_)
  · have hfl : kFull σ q = 0 := by
      have := (nI_leI (a := kFull σ q) (b := 0) (by have := kFull_6 hw hq2; omega) (by decide)).mp h19
      omega
    have hSA : kSfA (aFo α) σ q sf := Or.inl ⟨hfl, by
      rcases hi0 with e | e
      · subst e
        rcases hSf with w | ⟨j, w, -⟩
        · exact w.1
        · omega
      · exact absurd hfl e⟩
    refine x_aloadr_n hC dX0_isSafe_180 (q := 181) rfl rfl ?_
    refine x_iload_n hC dX0_isSafe_181 (q := 182) rfl rfl ?_
    refine x_callV hC xv_X0_134 dX0_isSafe_182 (q := 185) rfl rfl (m_safe h0 σ gF _ hF hv hFo.NB q hq2) (nn := (0, 0)) rfl rfl rfl (Nat.le_of_ble_eq_true rfl) ⟨(by (try dsimp only); omega), (by (try dsimp only); omega)⟩ ⟨(by (try dsimp only); omega), (by (try dsimp only); omega)⟩ (fun v g1 hp => ?_)
    obtain ⟨f5, xs, rfl, hSB, hg1⟩ := hp
    subst hg1
    rw [hSB.uniq hSA]
    refine x_iload hC dX0_isSafe_185 (q := 187) rfl rfl ?_
    refine x_icmp_ne hC dX0_isSafe_187 (q := 190) rfl (tgt := 221) rfl (fun h187 => ?_) (fun h187 => ?_)
    · exact absurd rfl h187
    refine x_iload hC dX0_isSafe_190 (q := 192) rfl rfl ?_
    refine x_if_eq hC dX0_isSafe_192 (q := 195) rfl (tgt := 217) rfl (fun h192 => ?_) (fun h192 => ?_)
    · have hx192 := h192
      refine x_iconst hC dX0_isSafe_217 (q := 218) rfl (v := (1)) (by decide) ?_
      refine x_goto hC dX0_isSafe_218 (tgt := 222) rfl ?_
      exact x_zret hC hr rfl dX0_isSafe_222 (by (try dsimp only); omega) (by (try dsimp only); omega) ⟨_, rfl, rfl⟩
    refine x_aloadr_n hC dX0_isSafe_195 (q := 196) rfl rfl ?_
    refine x_get hC xf_X0_69_0 dX0_isSafe_196 (q := 199) rfl (n := (101, 0)) (hat _) rfl ?_
    refine x_iload_n hC dX0_isSafe_199 (q := 200) rfl rfl ?_
    refine x_iald hC dX0_isSafe_200 (q := 201) rfl (n := (104, 0)) (har _) (j := q) rfl (by omega) (by decide) ?_
    refine x_iconst hC dX0_isSafe_201 (q := 202) rfl (v := (4)) (by decide) ?_
    rw [aF_lt hq]
    refine x_icmp_gt hC dX0_isSafe_202 (q := 205) rfl (tgt := 217) rfl (fun h202 => ?_) (fun h202 => ?_)
    · have hx202 := h202
      refine x_iconst hC dX0_isSafe_217 (q := 218) rfl (v := (1)) (by decide) ?_
      refine x_goto hC dX0_isSafe_218 (tgt := 222) rfl ?_
      exact x_zret hC hr rfl dX0_isSafe_222 (by (try dsimp only); omega) (by (try dsimp only); omega) ⟨_, rfl, rfl⟩
    have hro4 : aRo α q ≤ 4 := Nat.not_lt.mp (fun w => h202 (nI_lt (a := 4) w (by have := (hok.2.2.2.2.2.2.2.2.2.2.2 q).2; omega)))
    refine x_aloadr_n hC dX0_isSafe_205 (q := 206) rfl rfl ?_
    refine x_aloadr_n hC dX0_isSafe_206 (q := 207) rfl rfl ?_
    refine x_aloadr_n hC dX0_isSafe_207 (q := 208) rfl rfl ?_
    refine x_iload_n hC dX0_isSafe_208 (q := 209) rfl rfl ?_
    refine x_iload hC dX0_isSafe_209 (q := 211) rfl rfl ?_
    refine x_callS hC xv_X0_137 dX0_isSafe_211 (q := 214) rfl rfl (hBest h192 hro4 f5 sf hSA) rfl (Nat.le_of_ble_eq_true rfl) ⟨(by (try dsimp only); omega), (by (try dsimp only); omega)⟩ ⟨(by (try dsimp only); omega), (by (try dsimp only); omega)⟩ (fun v g1 hp => ?_)
    obtain ⟨f6, rfl, hg1⟩ := hp
    subst hg1
    refine x_if_eq hC dX0_isSafe_214 (q := 217) rfl (tgt := 221) rfl (fun h214 => ?_) (fun h214 => ?_)
    · exact absurd h214 (by decide)
    refine x_iconst hC dX0_isSafe_217 (q := 218) rfl (v := (1)) (by decide) ?_
    refine x_goto hC dX0_isSafe_218 (tgt := 222) rfl ?_
    exact x_zret hC hr rfl dX0_isSafe_222 (by (try dsimp only); omega) (by (try dsimp only); omega) ⟨_, rfl, rfl⟩
  have hfl : ¬ kFull σ q = 0 := fun w => h19 (by rw [w]; exact nI_le (a := 0) (b := 0) (Nat.le_refl _) (by decide))
  refine x_iconst hC dX0_isSafe_22 (q := 23) rfl (v := (1)) (by decide) ?_
  refine x_istore hC dX0_isSafe_23 (q := 25) rfl rfl ?_
  refine x_iconst hC dX0_isSafe_25 (q := 26) rfl (v := (0)) (by decide) ?_
  refine x_istore hC dX0_isSafe_26 (q := 28) rfl rfl ?_
  refine x_loop (S := (fun x : Nat × aEnv × Int32 × Option Value × Option Value => ((0 : Nat), (0 : Nat), kmix (kT σ x.2.1) gF, ([some (.ref (kA σ 0 0)), some (.ref aa), some (.ref ad), some (.int (nI q)), some (.int b), some (.int sf), some (.int (nI h)), some (.int x.2.2.1), some (.int (nI x.1)), x.2.2.2.1, x.2.2.2.2] : xL), ([] : List Value)))) (Inv := fun x => x.1 ≤ aI α 0 ∧ ((x.2.2.1 = 1 ∧ ∀ d, d < x.1 → LSf (aFo α) σ q h d) ∨ (x.2.2.1 = 0 ∧ ¬ ∀ d, d < aI α 0 → LSf (aFo α) σ q h d))) (μ := fun x => aI α 0 - x.1) ?_ (0, f, 1, u9, u10) ⟨Nat.zero_le _, Or.inl ⟨rfl, fun d hd => absurd hd (Nat.not_lt_zero d)⟩⟩
  intro x hj ih2
  obtain ⟨c, f, cn, u9, u10⟩ := x
  obtain ⟨hj, hcn⟩ := hj
  dsimp only at hj hcn ih2 ⊢
  refine x_iload hC dX0_isSafe_28 (q := 30) rfl rfl ?_
  refine x_aloadr_n hC dX0_isSafe_30 (q := 31) rfl rfl ?_
  refine x_get hC xf_X0_60_0 dX0_isSafe_31 (q := 34) rfl (n := (101, 0)) (hat _) rfl ?_
  refine x_icmp_ge hC dX0_isSafe_34 (q := 37) rfl (tgt := 160) rfl (fun h34 => ?_) (fun h34 => ?_)
  · have hc1 : c = aI α 0 := by
      have := (nI_leI (a := aI α 0) (b := c) (by omega) (by omega)).mp h34
      omega
    subst hc1
    have hKS : (cn = 1 ∧ kSaf (aFo α) σ q (nI h)) ∨ (cn = 0 ∧ ¬ kSaf (aFo α) σ q (nI h)) := by
      rw [kSaf_L hpP, hl.1]; exact hcn
    refine x_iload hC dX0_isSafe_160 (q := 162) rfl rfl ?_
    refine x_if_eq hC dX0_isSafe_162 (q := 165) rfl (tgt := 170) rfl (fun h162 => ?_) (fun h162 => ?_)
    · have hns : ¬ kSaf (aFo α) σ q (nI h) := by
        rcases hKS with w | w
        · rw [w.1] at h162; exact absurd h162 (by decide)
        · exact w.2
      refine x_iload hC dX0_isSafe_170 (q := 172) rfl rfl ?_
      refine x_istore hC dX0_isSafe_172 (q := 174) rfl rfl ?_
      refine x_iinc hC dX0_isSafe_174 (q := 177) rfl rfl (v := nI (h + 1)) (nI_1 h) ?_
      refine x_goto hC dX0_isSafe_177 (tgt := 6) rfl ?_
      first
        | exact ih (h + 1, _, sf, _, _, _, _) ⟨by (try dsimp only); omega, Or.inr hfl, hSf.no hns⟩ (by (try dsimp only); omega)
        | exact ih (h + 1, _, nI h, _, _, _, _) ⟨by (try dsimp only); omega, Or.inr hfl, kSfN.yes hys⟩ (by (try dsimp only); omega)
    have hys : kSaf (aFo α) σ q (nI h) := by
      rcases hKS with w | w
      · exact w.2
      · exact absurd w.1 h162
    refine x_iload hC dX0_isSafe_165 (q := 167) rfl rfl ?_
    refine x_goto hC dX0_isSafe_167 (tgt := 172) rfl ?_
    refine x_istore hC dX0_isSafe_172 (q := 174) rfl rfl ?_
    refine x_iinc hC dX0_isSafe_174 (q := 177) rfl rfl (v := nI (h + 1)) (nI_1 h) ?_
    refine x_goto hC dX0_isSafe_177 (tgt := 6) rfl ?_
    first
      | exact ih (h + 1, _, sf, _, _, _, _) ⟨by (try dsimp only); omega, Or.inr hfl, hSf.no hns⟩ (by (try dsimp only); omega)
      | exact ih (h + 1, _, nI h, _, _, _, _) ⟨by (try dsimp only); omega, Or.inr hfl, kSfN.yes hys⟩ (by (try dsimp only); omega)
  have hc1 : c < aI α 0 := Nat.not_le.mp (fun w => h34 (nI_le w (by omega)))
  refine x_iload hC dX0_isSafe_37 (q := 39) rfl rfl ?_
  refine x_if_eq hC dX0_isSafe_39 (q := 42) rfl (tgt := 160) rfl (fun h39 => ?_) (fun h39 => ?_)
  · have hKS : (cn = 1 ∧ kSaf (aFo α) σ q (nI h)) ∨ (cn = 0 ∧ ¬ kSaf (aFo α) σ q (nI h)) := by
      rw [kSaf_L hpP, hl.1]
      rcases hcn with w | w
      · rw [w.1] at h39; exact absurd h39 (by decide)
      · exact Or.inr w
    refine x_iload hC dX0_isSafe_160 (q := 162) rfl rfl ?_
    refine x_if_eq hC dX0_isSafe_162 (q := 165) rfl (tgt := 170) rfl (fun h162 => ?_) (fun h162 => ?_)
    · have hns : ¬ kSaf (aFo α) σ q (nI h) := by
        rcases hKS with w | w
        · rw [w.1] at h162; exact absurd h162 (by decide)
        · exact w.2
      refine x_iload hC dX0_isSafe_170 (q := 172) rfl rfl ?_
      refine x_istore hC dX0_isSafe_172 (q := 174) rfl rfl ?_
      refine x_iinc hC dX0_isSafe_174 (q := 177) rfl rfl (v := nI (h + 1)) (nI_1 h) ?_
      refine x_goto hC dX0_isSafe_177 (tgt := 6) rfl ?_
      first
        | exact ih (h + 1, _, sf, _, _, _, _) ⟨by (try dsimp only); omega, Or.inr hfl, hSf.no hns⟩ (by (try dsimp only); omega)
        | exact ih (h + 1, _, nI h, _, _, _, _) ⟨by (try dsimp only); omega, Or.inr hfl, kSfN.yes hys⟩ (by (try dsimp only); omega)
    have hys : kSaf (aFo α) σ q (nI h) := by
      rcases hKS with w | w
      · exact w.2
      · exact absurd w.1 h162
    refine x_iload hC dX0_isSafe_165 (q := 167) rfl rfl ?_
    refine x_goto hC dX0_isSafe_167 (tgt := 172) rfl ?_
    refine x_istore hC dX0_isSafe_172 (q := 174) rfl rfl ?_
    refine x_iinc hC dX0_isSafe_174 (q := 177) rfl rfl (v := nI (h + 1)) (nI_1 h) ?_
    refine x_goto hC dX0_isSafe_177 (tgt := 6) rfl ?_
    first
      | exact ih (h + 1, _, sf, _, _, _, _) ⟨by (try dsimp only); omega, Or.inr hfl, hSf.no hns⟩ (by (try dsimp only); omega)
      | exact ih (h + 1, _, nI h, _, _, _, _) ⟨by (try dsimp only); omega, Or.inr hfl, kSfN.yes hys⟩ (by (try dsimp only); omega)
  have hall : cn = 1 ∧ ∀ d, d < c → LSf (aFo α) σ q h d := hcn.resolve_right (fun w => h39 w.1)
  have hstep : LSf (aFo α) σ q h c → ∀ d, d < c + 1 → LSf (aFo α) σ q h d := fun w d hd => by
    by_cases e : d = c
    · subst e; exact w
    · exact hall.2 d (by omega)
  obtain ⟨hcn1, hall2⟩ := hall
  subst hcn1
  refine x_aloadr_n hC dX0_isSafe_42 (q := 43) rfl rfl ?_
  refine x_get hC xf_X0_120_16 dX0_isSafe_43 (q := 46) rfl (n := (120, 0)) (hd0 _) rfl ?_
  refine x_iload hC dX0_isSafe_46 (q := 48) rfl rfl ?_
  refine x_iald hC dX0_isSafe_48 (q := 49) rfl (n := (126, 0)) (hd6 _ 10 (by decide) (by decide)) (j := c) rfl (by omega) (by decide) ?_
  refine x_iload_n hC dX0_isSafe_49 (q := 50) rfl rfl ?_
  rw [(hK c hc1).1]
  refine x_icmp_eq hC dX0_isSafe_50 (q := 53) rfl (tgt := 56) rfl (fun h50 => ?_) (fun h50 => ?_)
  · have hkc : kO σ 0 c 0 = some q := (hl.kil hpP hok hc1 hq).mp h50
    obtain ⟨-, pp, hpr, hp33⟩ := hpP.2.1 c q (by rw [hl.1]; exact hc1) hkc
    have hpl : kO σ 1 q pp = some c := (hpP.1 q pp c).mpr ⟨by rw [hl.1]; exact hc1, hkc, hp33⟩
    have hp6 : pp < 6 := by have := hw.2.2.2.1 q hq2; omega
    have e11 : V 11 c = nI pp := by rw [(hK c hc1).2, hp33, iI_nat]
    have hun : ∀ p, kO σ 1 q p = some c → p = pp := fun p e => by have := ((hpP.1 q p c).mp e).2.2; omega
    refine x_aloadr_n hC dX0_isSafe_56 (q := 57) rfl rfl ?_
    refine x_aloadr_n hC dX0_isSafe_57 (q := 58) rfl rfl ?_
    refine x_iload_n hC dX0_isSafe_58 (q := 59) rfl rfl ?_
    refine x_aloadr_n hC dX0_isSafe_59 (q := 60) rfl rfl ?_
    refine x_get hC xf_X0_122_16 dX0_isSafe_60 (q := 63) rfl (n := (120, 0)) (hd0 _) rfl ?_
    refine x_iload hC dX0_isSafe_63 (q := 65) rfl rfl ?_
    refine x_iald hC dX0_isSafe_65 (q := 66) rfl (n := (127, 0)) (hd6 _ 11 (by decide) (by decide)) (j := c) rfl (by omega) (by decide) ?_
    refine x_iconst hC dX0_isSafe_66 (q := 67) rfl (v := (1)) (by decide) ?_
    rw [e11]
    refine x_iadd hC dX0_isSafe_67 (q := 68) rfl ?_
    rw [show nI pp + 1 = nI (pp + 1) from nI_1 pp]
    refine x_callV hC xv_X0_124 dX0_isSafe_68 (q := 71) rfl rfl (m_X19_who h0 _ (hD.km (kT σ _)) (hA.km (kT σ _)) hok (nI q) (nI (pp + 1))) (nn := (120, 0)) (hd0 _) rfl rfl (Nat.le_of_ble_eq_true rfl) ⟨(by (try dsimp only); omega), (by (try dsimp only); omega)⟩ ⟨(by (try dsimp only); omega), (by (try dsimp only); omega)⟩ (fun v g1 hp => ?_)
    rw [kWho_at hok hl hpP hK hq (by omega) _ (Nat.le_refl _)] at hp
    obtain ⟨rfl, hg1⟩ := hp
    replace hg1 := hg1.symm
    subst hg1
    refine x_istore hC dX0_isSafe_71 (q := 73) rfl rfl ?_
    refine x_aloadr_n hC dX0_isSafe_73 (q := 74) rfl rfl ?_
    refine x_iload hC dX0_isSafe_74 (q := 76) rfl rfl ?_
    refine x_iload hC dX0_isSafe_76 (q := 78) rfl rfl ?_
    refine x_aloadr_n hC dX0_isSafe_78 (q := 79) rfl rfl ?_
    refine x_get hC xf_X0_122_16 dX0_isSafe_79 (q := 82) rfl (n := (120, 0)) (hd0 _) rfl ?_
    refine x_iload hC dX0_isSafe_82 (q := 84) rfl rfl ?_
    refine x_iald hC dX0_isSafe_84 (q := 85) rfl (n := (127, 0)) (hd6 _ 11 (by decide) (by decide)) (j := c) rfl (by omega) (by decide) ?_
    rw [e11]
    refine x_callV hC xv_X0_97 dX0_isSafe_85 (q := 88) rfl rfl (m_X2_rings h0 σ gF _ hF hw c (by rw [hl.1]; omega) (nI h) (nI (pp)) ⟨by rw [nI_toInt (by omega)]; omega, by rw [nI_toInt (by omega)]; omega⟩ ⟨by rw [nI_toInt (by omega)]; omega, by rw [nI_toInt (by omega)]; omega⟩) (nn := (0, 0)) rfl rfl rfl (Nat.le_of_ble_eq_true rfl) ⟨(by (try dsimp only); omega), (by (try dsimp only); omega)⟩ ⟨(by (try dsimp only); omega), (by (try dsimp only); omega)⟩ (fun v g1 hp => ?_)
    obtain ⟨f2, rfl, hg1⟩ := hp
    subst hg1
    refine x_istore hC dX0_isSafe_88 (q := 90) rfl rfl ?_
    refine x_aloadr_n hC dX0_isSafe_90 (q := 91) rfl rfl ?_
    refine x_iload hC dX0_isSafe_91 (q := 93) rfl rfl ?_
    refine x_iload hC dX0_isSafe_93 (q := 95) rfl rfl ?_
    refine x_aloadr_n hC dX0_isSafe_95 (q := 96) rfl rfl ?_
    refine x_get hC xf_X0_122_16 dX0_isSafe_96 (q := 99) rfl (n := (120, 0)) (hd0 _) rfl ?_
    refine x_iload hC dX0_isSafe_99 (q := 101) rfl rfl ?_
    refine x_iald hC dX0_isSafe_101 (q := 102) rfl (n := (127, 0)) (hd6 _ 11 (by decide) (by decide)) (j := c) rfl (by omega) (by decide) ?_
    rw [e11]
    refine x_callV hC xv_X0_106 dX0_isSafe_102 (q := 105) rfl rfl (m_X2_cracks h0 σ gF _ hF hw c (by rw [hl.1]; omega) (nI h) (nI (pp)) ⟨by rw [nI_toInt (by omega)]; omega, by rw [nI_toInt (by omega)]; omega⟩ ⟨by rw [nI_toInt (by omega)]; omega, by rw [nI_toInt (by omega)]; omega⟩) (nn := (0, 0)) rfl rfl rfl (Nat.le_of_ble_eq_true rfl) ⟨(by (try dsimp only); omega), (by (try dsimp only); omega)⟩ ⟨(by (try dsimp only); omega), (by (try dsimp only); omega)⟩ (fun v g1 hp => ?_)
    obtain ⟨f3, rfl, hg1⟩ := hp
    subst hg1
    refine x_if_ne hC dX0_isSafe_105 (q := 108) rfl (tgt := 151) rfl (fun h105 => ?_) (fun h105 => ?_)
    · have hcan : ¬ LSf (aFo α) σ q h c := fun w => h105 (if_pos (w pp hpl).1)
      refine x_iconst hC dX0_isSafe_151 (q := 152) rfl (v := (0)) (by decide) ?_
      refine x_istore hC dX0_isSafe_152 (q := 154) rfl rfl ?_
      refine x_iinc hC dX0_isSafe_154 (q := 157) rfl rfl (v := nI (c + 1)) (nI_1 c) ?_
      refine x_goto hC dX0_isSafe_157 (tgt := 28) rfl ?_
      first
        | exact ih2 (c + 1, _, 1, _, _) ⟨by (try dsimp only); omega, Or.inl ⟨rfl, hstep hcan⟩⟩ (by (try dsimp only); omega)
        | exact ih2 (c + 1, _, 0, _, _) ⟨by (try dsimp only); omega, Or.inr ⟨rfl, fun w => hcan (w c hc1)⟩⟩ (by (try dsimp only); omega)
    have hck : kCrack (aFo α) σ c (nI h) (nI pp) = 0 := Classical.byContradiction (fun w => absurd ((if_neg w).symm.trans h105) (by decide))
    refine x_iload hC dX0_isSafe_108 (q := 110) rfl rfl ?_
    refine x_if_lt hC dX0_isSafe_110 (q := 113) rfl (tgt := 147) rfl (fun h110 => ?_) (fun h110 => ?_)
    · have hcan : LSf (aFo α) σ q h c := fun p e => by
        rw [hun p e]
        refine ⟨hck, fun d hd => ?_⟩
        have hdn := ((hpP.1 q (pp + 1) d).mp hd).1
        rw [hl.1] at hdn
        rw [show aAt σ q (pp + 1) (aI α 0) = nI d from by unfold aAt; rw [hd]; exact if_pos hdn] at h110
        exact absurd (nI_le (a := 0) (b := d) (Nat.zero_le _) (by omega)) (Int32.not_le.mpr h110)
      refine x_iconst hC dX0_isSafe_147 (q := 148) rfl (v := (1)) (by decide) ?_
      refine x_goto hC dX0_isSafe_148 (tgt := 152) rfl ?_
      refine x_istore hC dX0_isSafe_152 (q := 154) rfl rfl ?_
      refine x_iinc hC dX0_isSafe_154 (q := 157) rfl rfl (v := nI (c + 1)) (nI_1 c) ?_
      refine x_goto hC dX0_isSafe_157 (tgt := 28) rfl ?_
      first
        | exact ih2 (c + 1, _, 1, _, _) ⟨by (try dsimp only); omega, Or.inl ⟨rfl, hstep hcan⟩⟩ (by (try dsimp only); omega)
        | exact ih2 (c + 1, _, 0, _, _) ⟨by (try dsimp only); omega, Or.inr ⟨rfl, fun w => hcan (w c hc1)⟩⟩ (by (try dsimp only); omega)
    obtain ⟨d, hd⟩ : ∃ d, kO σ 1 q (pp + 1) = some d := by
      cases e : kO σ 1 q (pp + 1) with
      | some d => exact ⟨d, rfl⟩
      | none => exact absurd (show aAt σ q (pp + 1) (aI α 0) < 0 by unfold aAt; rw [e]; exact (show (-1 : Int32) < 0 by decide)) h110
    obtain ⟨hd1, hd2, hd33⟩ := (hpP.1 q (pp + 1) d).mp hd
    have hdn : d < aI α 0 := by rw [← hl.1]; exact hd1
    have hp7 : pp + 1 < 6 := by
      obtain ⟨-, p2, w1, w2⟩ := hpP.2.1 d q hd1 hd2
      have := hw.2.2.2.1 q hq2
      omega
    have hat2 : aAt σ q (pp + 1) (aI α 0) = nI d := by unfold aAt; rw [hd]; exact if_pos hdn
    have e11d : V 11 d = nI (pp + 1) := by rw [(hK d hdn).2, hd33, iI_nat]
    rw [hat2]
    refine x_aloadr_n hC dX0_isSafe_113 (q := 114) rfl rfl ?_
    refine x_iload hC dX0_isSafe_114 (q := 116) rfl rfl ?_
    refine x_iload hC dX0_isSafe_116 (q := 118) rfl rfl ?_
    refine x_iload hC dX0_isSafe_118 (q := 120) rfl rfl ?_
    refine x_aloadr_n hC dX0_isSafe_120 (q := 121) rfl rfl ?_
    refine x_iload hC dX0_isSafe_121 (q := 123) rfl rfl ?_
    refine x_iload hC dX0_isSafe_123 (q := 125) rfl rfl ?_
    refine x_aloadr_n hC dX0_isSafe_125 (q := 126) rfl rfl ?_
    refine x_get hC xf_X0_122_16 dX0_isSafe_126 (q := 129) rfl (n := (120, 0)) (hd0 _) rfl ?_
    refine x_iload hC dX0_isSafe_129 (q := 131) rfl rfl ?_
    refine x_iald hC dX0_isSafe_131 (q := 132) rfl (n := (127, 0)) (hd6 _ 11 (by decide) (by decide)) (j := d) rfl (by omega) (by decide) ?_
    rw [e11d]
    refine x_callV hC xv_X0_97 dX0_isSafe_132 (q := 135) rfl rfl (m_X2_rings h0 σ gF _ hF hw d (by rw [hl.1]; omega) (nI h) (nI (pp + 1)) ⟨by rw [nI_toInt (by omega)]; omega, by rw [nI_toInt (by omega)]; omega⟩ ⟨by rw [nI_toInt (by omega)]; omega, by rw [nI_toInt (by omega)]; omega⟩) (nn := (0, 0)) rfl rfl rfl (Nat.le_of_ble_eq_true rfl) ⟨(by (try dsimp only); omega), (by (try dsimp only); omega)⟩ ⟨(by (try dsimp only); omega), (by (try dsimp only); omega)⟩ (fun v g1 hp => ?_)
    obtain ⟨f4, rfl, hg1⟩ := hp
    subst hg1
    refine x_isub hC dX0_isSafe_135 (q := 136) rfl ?_
    refine x_callS hC xv_X0_128 dX0_isSafe_136 (q := 139) rfl rfl (m_J0_abs h0 _ (kTemp (aFo α) σ c (nI h) (nI pp) - kTemp (aFo α) σ d (nI h) (nI (pp + 1)))) rfl (Nat.le_of_ble_eq_true rfl) ⟨(by (try dsimp only); omega), (by (try dsimp only); omega)⟩ ⟨(by (try dsimp only); omega), (by (try dsimp only); omega)⟩ (fun v g1 hp => ?_)
    obtain ⟨za, zb1, zb2, zb3⟩ := aTempR hok hl hc1 hh20 (show pp ≤ 6 by omega)
    obtain ⟨zc1, zd1, zd2, zd3⟩ := aTempR hok hl hdn hh20 (show pp + 1 ≤ 6 by omega)
    obtain ⟨z, hz1, hz2, hz3, -⟩ := abs99 zb1 zd1 ⟨zb2, zb3⟩ ⟨zd2, zd3⟩
    rw [hz1] at hp
    obtain ⟨rfl, hg1⟩ := hp
    replace hg1 := hg1.symm
    subst hg1
    refine x_iload hC dX0_isSafe_139 (q := 141) rfl rfl ?_
    refine x_callV hC xv_X0_131 dX0_isSafe_141 (q := 144) rfl rfl (m_X1_sticks h0 _ (hA.km (kT σ _)) hok hc1 hdn (z := z) (h := (h : Int)) ⟨by omega, by omega⟩ ⟨by omega, by omega⟩) (nn := (101, 0)) (hat _) rfl rfl (Nat.le_of_ble_eq_true rfl) ⟨(by (try dsimp only); omega), (by (try dsimp only); omega)⟩ ⟨(by (try dsimp only); omega), (by (try dsimp only); omega)⟩ (fun v g1 hp => ?_)
    have hsk := aStk hok hl hc1 hdn (h := (h : Int)) ⟨by omega, by omega⟩ ⟨hz2, hz3⟩ hz1
    rw [← hsk, iI_nat] at hp
    obtain ⟨rfl, hg1⟩ := hp
    replace hg1 := hg1.symm
    subst hg1
    refine x_if_ne hC dX0_isSafe_144 (q := 147) rfl (tgt := 151) rfl (fun h144 => ?_) (fun h144 => ?_)
    · have hcan : ¬ LSf (aFo α) σ q h c := fun w => h144 (if_pos ((w pp hpl).2 d hd))
      refine x_iconst hC dX0_isSafe_151 (q := 152) rfl (v := (0)) (by decide) ?_
      refine x_istore hC dX0_isSafe_152 (q := 154) rfl rfl ?_
      refine x_iinc hC dX0_isSafe_154 (q := 157) rfl rfl (v := nI (c + 1)) (nI_1 c) ?_
      refine x_goto hC dX0_isSafe_157 (tgt := 28) rfl ?_
      first
        | exact ih2 (c + 1, _, 1, _, _) ⟨by (try dsimp only); omega, Or.inl ⟨rfl, hstep hcan⟩⟩ (by (try dsimp only); omega)
        | exact ih2 (c + 1, _, 0, _, _) ⟨by (try dsimp only); omega, Or.inr ⟨rfl, fun w => hcan (w c hc1)⟩⟩ (by (try dsimp only); omega)
    have hcan : LSf (aFo α) σ q h c := fun p e => by
      rw [hun p e]
      refine ⟨hck, fun d2 hd2 => ?_⟩
      rw [hd] at hd2
      cases hd2
      exact Classical.byContradiction (fun w => absurd ((if_neg w).symm.trans h144) (by decide))
    refine x_iconst hC dX0_isSafe_147 (q := 148) rfl (v := (1)) (by decide) ?_
    refine x_goto hC dX0_isSafe_148 (tgt := 152) rfl ?_
    refine x_istore hC dX0_isSafe_152 (q := 154) rfl rfl ?_
    refine x_iinc hC dX0_isSafe_154 (q := 157) rfl rfl (v := nI (c + 1)) (nI_1 c) ?_
    refine x_goto hC dX0_isSafe_157 (tgt := 28) rfl ?_
    first
      | exact ih2 (c + 1, _, 1, _, _) ⟨by (try dsimp only); omega, Or.inl ⟨rfl, hstep hcan⟩⟩ (by (try dsimp only); omega)
      | exact ih2 (c + 1, _, 0, _, _) ⟨by (try dsimp only); omega, Or.inr ⟨rfl, fun w => hcan (w c hc1)⟩⟩ (by (try dsimp only); omega)
  have hcan : LSf (aFo α) σ q h c := fun p e => absurd ((hl.kil hpP hok hc1 hq).mpr ((hpP.1 q p c).mp e).2.1) h50
  refine x_goto hC dX0_isSafe_53 (tgt := 154) rfl ?_
  refine x_iinc hC dX0_isSafe_154 (q := 157) rfl rfl (v := nI (c + 1)) (nI_1 c) ?_
  refine x_goto hC dX0_isSafe_157 (tgt := 28) rfl ?_
  first
    | exact ih2 (c + 1, _, 1, _, _) ⟨by (try dsimp only); omega, Or.inl ⟨rfl, hstep hcan⟩⟩ (by (try dsimp only); omega)
    | exact ih2 (c + 1, _, 0, _, _) ⟨by (try dsimp only); omega, Or.inr ⟨rfl, fun w => hcan (w c hc1)⟩⟩ (by (try dsimp only); omega)
