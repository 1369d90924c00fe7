/-! THE LAW's ENTRY: the loop over the acts, the end -/
abbrev RL : Room := xr 8192 706067 6981492 104096
theorem x_lawend {p : Program} {l : Launch} {e : Env} {s : State} {m : MethodId} {below : List Frame} {meth : Method} {c0 : Code} {b : Nat} {D : va_G} {cells slots : Nat} {g : xG} {pc : Nat} {lv : xL} (hC : xC p l s s D m #[Value.ref b] meth c0 RX0 cL_law) (hr : meth.sig.returnType = ret) (hlk : meth.locks = false) (d : decode cL_law pc = .ok (.ireturn, 1)) (h1 : cells ≤ 706067) (h2 : slots ≤ 6981492) : XW p l e RL s m #[Value.ref b] below meth c0 s D (lw_Z below #[Value.ref b] s) cells slots g pc lv [.int 1] := by
  refine x_widen h1 h2 ?_
  intro H locs ls hm hI hS hl
  refine va_forget (fun q hq => hS.2.2 q hq) ?_
  exact lw_ret hC.1 hC.2.1 hr hlk d

set_option maxHeartbeats 4000000 in
set_option maxRecDepth 100000 in
theorem law_end {p : Program} {l : Launch} {e : Env} {s : State} {m : MethodId} {below : List Frame} {meth : Method} {c0 : Code} {b : Nat} {D : va_G} (h0 : x0 l s D) (hC : xC p l s s D m #[Value.ref b] meth c0 RX0 cL_law) (hr : meth.sig.returnType = ret) (hlk : meth.locks = false) (σ : KS) {gB : xG} {aa sa d0 : Nat} {α : aA} {fs : Nat → Int32} (hA : AH gB aa α) (hok : aOk α) (hs : gB (100, 0) = some (sa, xAi .int 400 fs)) (hB : ∀ n : xN, 120 ≤ n.1 → n.1 ≤ 141 → gB n = none) (hL0 : gB (2000, 0) = none) (h109 : gB (109, 0) = none) (h110 : gB (110, 0) = none) (hFo : KFo s gB d0) (hL : LSt gB α d0 σ) (hwk : 0 ≤ kI σ 3 0 ∧ kI σ 3 0 ≤ 880) (v4 v5 v6 : Option Value) : XW p l e RL s m #[Value.ref b] below meth c0 s D (lw_Z below #[Value.ref b] s) (462750) (4160000) (kmix σ gB) 221 ([some (.ref b), some (.ref sa), some (.ref aa), some (.ref (kA σ 0 0)), v4, v5, v6] : xL) ([] : List Value) := by
  have hb0 := hok.1
  obtain ⟨ca, ga, ra, hat1, -⟩ := id hA
  have hat : ∀ ρ : KS, kmix ρ gB (101, 0) = some (aa, xO 0 (aFs α ca ga ra)) := fun ρ => (kmix_F ρ gB _ rfl).trans hat1
  have hsx : kmix σ gB (100, 0) = some (sa, xAi .int 400 fs) := (kmix_F σ gB _ rfl).trans hs
  refine x_aloadr_n hC dL_law_221 (q := 222) rfl rfl ?_
  refine x_get hC xf_X0_60_0 dL_law_222 (q := 225) rfl (n := (101, 0)) (hat _) rfl ?_
  refine x_if_eq hC dL_law_225 (q := 228) rfl (tgt := 265) rfl (fun h225 => ?_) (fun h225 => ?_)
  · have hLI := hL.li
    have hwk2 : 0 ≤ kI σ 3 0 ∧ kI σ 3 0 ≤ 890 := ⟨hwk.1, by omega⟩
    obtain ⟨ρ, rfl⟩ : ∃ x, x = σ := ⟨_, rfl⟩
    refine x_aloadr_n hC dL_law_265 (q := 266) rfl rfl ?_
    refine x_aloadr_n hC dL_law_266 (q := 267) rfl rfl ?_
    refine x_callS hC xv_X0_370 dL_law_267 (q := 270) rfl rfl (m_X0_isImage h0 ρ gB hB hL0 h109 h110 hA hok hLI hFo hwk2) rfl (Nat.le_of_ble_eq_true rfl) ⟨(by (try dsimp only); omega), (by (try dsimp only); omega)⟩ ⟨(by (try dsimp only); omega), (by (try dsimp only); omega)⟩ (fun v g1 hp => ?_)
    subst hp
    refine x_if_eq hC dL_law_270 (q := 273) rfl (tgt := 277) rfl (fun h270 => ?_) (fun h270 => ?_)
    · exact absurd h270 (by decide)
    refine x_iconst hC dL_law_273 (q := 274) rfl (v := (1)) (by decide) ?_
    refine x_goto hC dL_law_274 (tgt := 278) rfl ?_
    exact x_lawend hC hr hlk dL_law_278 (by (try dsimp only); omega) (by (try dsimp only); omega)
  have hc0 : 0 < aI α 0 := by
    rcases Nat.eq_zero_or_pos (aI α 0) with w | w
    · rw [w] at h225; exact absurd rfl h225
    · exact w
  have hpk := fun j n (h1 : 0 < n) (h2 : n < 100000) => (pk_ok (fs j) (n := n) h1 h2).1
  refine x_aloadr_n hC dL_law_228 (q := 229) rfl rfl ?_
  refine x_aloadr_n hC dL_law_229 (q := 230) rfl rfl ?_
  refine x_aloadr_n hC dL_law_230 (q := 231) rfl rfl ?_
  refine x_sipush hC dL_law_231 (q := 234) rfl (v := (210)) (by decide) ?_
  refine x_aloadr_n hC dL_law_234 (q := 235) rfl rfl ?_
  refine x_get hC xf_X0_60_0 dL_law_235 (q := 238) rfl (n := (101, 0)) (hat _) rfl ?_
  refine x_callS hC xv_X0_277 dL_law_238 (q := 241) rfl rfl (m_X0_pick h0 (kmix σ gB) (ns := (100, 0)) (sa := sa) (f := fs) hsx (k := 210) (n := aI α 0) (by decide) hc0 (by omega)) rfl (Nat.le_of_ble_eq_true rfl) ⟨(by (try dsimp only); omega), (by (try dsimp only); omega)⟩ ⟨(by (try dsimp only); omega), (by (try dsimp only); omega)⟩ (fun v g1 hp => ?_)
  obtain ⟨rfl, hg1⟩ := hp
  replace hg1 := hg1.symm
  subst hg1
  refine x_aloadr_n hC dL_law_241 (q := 242) rfl rfl ?_
  refine x_sipush hC dL_law_242 (q := 245) rfl (v := (211)) (by decide) ?_
  refine x_bipush hC dL_law_245 (q := 247) rfl (v := (6)) (by decide) ?_
  refine x_callS hC xv_X0_277 dL_law_247 (q := 250) rfl rfl (m_X0_pick h0 (kmix σ gB) (ns := (100, 0)) (sa := sa) (f := fs) hsx (k := 211) (n := 6) (by decide) (by decide) (by omega)) rfl (Nat.le_of_ble_eq_true rfl) ⟨(by (try dsimp only); omega), (by (try dsimp only); omega)⟩ ⟨(by (try dsimp only); omega), (by (try dsimp only); omega)⟩ (fun v g1 hp => ?_)
  obtain ⟨rfl, hg1⟩ := hp
  replace hg1 := hg1.symm
  subst hg1
  refine x_aloadr_n hC dL_law_250 (q := 251) rfl rfl ?_
  refine x_sipush hC dL_law_251 (q := 254) rfl (v := (212)) (by decide) ?_
  refine x_bipush hC dL_law_254 (q := 256) rfl (v := (21)) (by decide) ?_
  refine x_callS hC xv_X0_277 dL_law_256 (q := 259) rfl rfl (m_X0_pick h0 (kmix σ gB) (ns := (100, 0)) (sa := sa) (f := fs) hsx (k := 212) (n := 21) (by decide) (by decide) (by omega)) rfl (Nat.le_of_ble_eq_true rfl) ⟨(by (try dsimp only); omega), (by (try dsimp only); omega)⟩ ⟨(by (try dsimp only); omega), (by (try dsimp only); omega)⟩ (fun v g1 hp => ?_)
  obtain ⟨rfl, hg1⟩ := hp
  replace hg1 := hg1.symm
  subst hg1
  refine x_callS hC xv_X0_367 dL_law_259 (q := 262) rfl rfl (m_X0_isSeen h0 σ gB (aa := aa) hok hL hFo hL0 h109 h110 (hpk 210 (aI α 0) hc0 (by omega)) (hpk 211 6 (by decide) (by decide)) (by have := hpk 212 21 (by decide) (by decide); omega)) rfl (Nat.le_of_ble_eq_true rfl) ⟨(by (try dsimp only); omega), (by (try dsimp only); omega)⟩ ⟨(by (try dsimp only); omega), (by (try dsimp only); omega)⟩ (fun v g1 hp => ?_)
  obtain ⟨ρ, rfl, hLI, e00, e03, hg1⟩ := hp
  subst hg1
  rw [← e00]
  have hwk2 : 0 ≤ kI ρ 3 0 ∧ kI ρ 3 0 ≤ 890 := by rw [e03]; exact ⟨hwk.1, by omega⟩
  refine x_if_eq hC dL_law_262 (q := 265) rfl (tgt := 277) rfl (fun h262 => ?_) (fun h262 => ?_)
  · exact absurd h262 (by decide)
  refine x_aloadr_n hC dL_law_265 (q := 266) rfl rfl ?_
  refine x_aloadr_n hC dL_law_266 (q := 267) rfl rfl ?_
  refine x_callS hC xv_X0_370 dL_law_267 (q := 270) rfl rfl (m_X0_isImage h0 ρ gB hB hL0 h109 h110 hA hok hLI hFo hwk2) rfl (Nat.le_of_ble_eq_true rfl) ⟨(by (try dsimp only); omega), (by (try dsimp only); omega)⟩ ⟨(by (try dsimp only); omega), (by (try dsimp only); omega)⟩ (fun v g1 hp => ?_)
  subst hp
  refine x_if_eq hC dL_law_270 (q := 273) rfl (tgt := 277) rfl (fun h270 => ?_) (fun h270 => ?_)
  · exact absurd h270 (by decide)
  refine x_iconst hC dL_law_273 (q := 274) rfl (v := (1)) (by decide) ?_
  refine x_goto hC dL_law_274 (tgt := 278) rfl ?_
  exact x_lawend hC hr hlk dL_law_278 (by (try dsimp only); omega) (by (try dsimp only); omega)

set_option maxHeartbeats 4000000 in
set_option maxRecDepth 100000 in
theorem law_loop {p : Program} {l : Launch} {e : Env} {s : State} {m : MethodId} {below : List Frame} {meth : Method} {c0 : Code} {b : Nat} {D : va_G} (h0 : x0 l s D) (hC : xC p l s s D m #[Value.ref b] meth c0 RX0 cL_law) (hr : meth.sig.returnType = ret) (hlk : meth.locks = false) (σ : KS) {gB : xG} {aa sa d0 : Nat} {α : aA} {fs : Nat → Int32} (hA : AH gB aa α) (hok : aOk α) (hs : gB (100, 0) = some (sa, xAi .int 400 fs)) (hB : ∀ n : xN, 120 ≤ n.1 → n.1 ≤ 141 → gB n = none) (hL0 : gB (2000, 0) = none) (h109 : gB (109, 0) = none) (h110 : gB (110, 0) = none) (hFo : KFo s gB d0) {ta : Nat} (h142 : gB (142, 0) = none) (hL : LSt gB α d0 σ) (hk3 : kI σ 3 0 = 0) (hv3 : kV σ 1 0 3 = 0) (f0 : Nat → Int32) (hT : ∀ d, d < aI α 0 → 0 ≤ f0 d → f0 d = iI (kI σ 34 d)) (v6 : Option Value) : XW p l e RL s m #[Value.ref b] below meth c0 s D (lw_Z below #[Value.ref b] s) (6700) (1324400) (kmix σ (xu gB (142, 0) (some (ta, xAi .int 6 f0)))) 83 ([some (.ref b), some (.ref sa), some (.ref aa), some (.ref (kA σ 0 0)), some (.ref ta), some (.int (nI 0)), v6] : xL) ([] : List Value) := by
  have hb0 := hok.1
  obtain ⟨ca, ga, ra, hat1, -⟩ := id hA
  have hatx : ∀ (ρ : KS) (f : Nat → Int32), kmix ρ (xu gB (142, 0) (some (ta, xAi .int 6 f))) (101, 0) = some (aa, xO 0 (aFs α ca ga ra)) := fun ρ f => (kmix_F ρ _ _ rfl).trans ((xu_ne (n_fst rfl)).trans hat1)
  have hAx : ∀ f : Nat → Int32, AH (xu gB (142, 0) (some (ta, xAi .int 6 f))) aa α := fun f => hA.ext (fun n h1 h2 => xu_ne (fun e => by rw [e] at h2; exact absurd h2 (show ¬ (142 : Nat) ≤ 104 by decide)))
  have hsx : ∀ f : Nat → Int32, (xu gB (142, 0) (some (ta, xAi .int 6 f))) (100, 0) = some (sa, xAi .int 400 fs) := fun f => (xu_ne (n_fst rfl)).trans hs
  have hBx : ∀ f : Nat → Int32, ∀ n : xN, 120 ≤ n.1 → n.1 ≤ 141 → (xu gB (142, 0) (some (ta, xAi .int 6 f))) n = none := fun f n h1 h2 => (xu_ne (fun e => by rw [e] at h2; exact absurd h2 (show ¬ (142 : Nat) ≤ 141 by decide))).trans (hB n h1 h2)
  have hOx : ∀ (f : Nat → Int32) (n : xN), n ≠ (142, 0) → gB n = none → (xu gB (142, 0) (some (ta, xAi .int 6 f))) n = none := fun f n h1 h2 => (xu_ne h1).trans h2
  have hFx : ∀ f : Nat → Int32, KFo s (xu gB (142, 0) (some (ta, xAi .int 6 f))) d0 := fun f => ⟨hFo.1.up rfl _, fun n h1 h2 => (xu_ne (fun e => by rw [e] at h2; exact absurd h2 (show ¬ (142 : Nat) ≤ 99 by decide))).trans (hFo.2 n h1 h2)⟩
  have hLx : ∀ (f : Nat → Int32) {τ : KS}, LSt gB α d0 τ → LSt (xu gB (142, 0) (some (ta, xAi .int 6 f))) α d0 τ := fun f τ h => ⟨h.1.xu h142 _, h.2⟩
  refine x_loop (S := (fun x : Nat × KS × (Nat → Int32) × Option Value => (6700 + 15201 * x.1, 1324400 + 94505 * x.1, kmix x.2.1 (xu gB (142, 0) (some (ta, xAi .int 6 x.2.2.1))), ([some (.ref b), some (.ref sa), some (.ref aa), some (.ref (kA x.2.1 0 0)), some (.ref ta), some (.int (nI x.1)), x.2.2.2] : xL), ([] : List Value)))) (Inv := (fun x => x.1 ≤ 30 ∧ LSt gB α d0 x.2.1 ∧ (0 ≤ kI x.2.1 3 0 ∧ kI x.2.1 3 0 ≤ 5 * (x.1 : Int)) ∧ (0 ≤ kV x.2.1 1 0 3 ∧ kV x.2.1 1 0 3 ≤ (x.1 : Int)) ∧ ∀ d, d < aI α 0 → 0 ≤ x.2.2.1 d → x.2.2.1 d = iI (kI x.2.1 34 d))) (μ := fun x => 30 - x.1) ?_ (0, σ, f0, v6) ⟨Nat.zero_le _, hL, ⟨by show (0 : Int) ≤ kI σ 3 0; omega, by show kI σ 3 0 ≤ 5 * ((0 : Nat) : Int); omega⟩, ⟨by show (0 : Int) ≤ kV σ 1 0 3; omega, by show kV σ 1 0 3 ≤ ((0 : Nat) : Int); omega⟩, hT⟩
  intro x hi ih
  obtain ⟨k, σ, f0, v6⟩ := x
  obtain ⟨hk, hL, hwk, hst, hT⟩ := hi
  dsimp only at hk hL hwk hst hT ih ⊢
  refine x_iload hC dL_law_83 (q := 85) rfl rfl ?_
  refine x_bipush hC dL_law_85 (q := 87) rfl (v := (30)) (by decide) ?_
  refine x_icmp_ge hC dL_law_87 (q := 90) rfl (tgt := 221) rfl (fun h87 => ?_) (fun h87 => ?_)
  · have hk30 : k = 30 := by
      have := (nI_leI (a := 30) (b := k) (by omega) (by omega)).mp h87
      omega
    subst hk30
    refine x_widen (k0 := 462750) (n0 := 4160000) (by omega) (by omega) ?_
    exact law_end h0 hC hr hlk σ (hAx f0) hok (hsx f0) (hBx f0) (hOx f0 (2000, 0) (n_fst rfl) hL0) (hOx f0 (109, 0) (n_fst rfl) h109) (hOx f0 (110, 0) (n_fst rfl) h110) (hFx f0) (hLx f0 hL) ⟨hwk.1, by omega⟩ _ _ _
  have hk29 : k < 30 := Nat.not_le.mp (fun w => h87 (nI_le (a := 30) w (by omega)))
  refine x_aloadr_n hC dL_law_90 (q := 91) rfl rfl ?_
  refine x_aloadr_n hC dL_law_91 (q := 92) rfl rfl ?_
  refine x_aloadr_n hC dL_law_92 (q := 93) rfl rfl ?_
  refine x_iload hC dL_law_93 (q := 95) rfl rfl ?_
  refine x_callS hC xv_X0_348 dL_law_95 (q := 98) rfl rfl (m_X0_acts h0 σ (xu gB (142, 0) (some (ta, xAi .int 6 f0))) hk29 (hsx f0) (hBx f0) (hOx f0 (2000, 0) (n_fst rfl) hL0) (hAx f0) hok (hLx f0 hL) (hFx f0) ⟨hwk.1, by omega⟩ ⟨hst.1, by omega⟩) rfl (Nat.le_of_ble_eq_true rfl) ⟨(by (try dsimp only); omega), (by (try dsimp only); omega)⟩ ⟨(by (try dsimp only); omega), (by (try dsimp only); omega)⟩ (fun v g1 hp => ?_)
  obtain ⟨ρ, rfl, hAR, hg1⟩ := hp
  subst hg1
  rw [← hAR.2.1]
  have hLr : LSt gB α d0 ρ := ⟨⟨fun j hj => by rw [hAR.2.2.2.2.2.2.2 j]; exact hL.1.1 j hj, hAR.1.1.2⟩, hAR.1.2⟩
  have hTr : ∀ d, d < aI α 0 → 0 ≤ f0 d → f0 d = iI (kI ρ 34 d) := fun d hd h => by
    have e := hT d hd h
    rw [hAR.2.2.1 d (by rw [hL.2.1.1]; exact hd) (fun w => by rw [e, w] at h; exact absurd h (by decide))]
    exact e
  have hwkr : 0 ≤ kI ρ 3 0 ∧ kI ρ 3 0 ≤ 100000 := ⟨by have := hAR.2.2.2.1; omega, by have := hAR.2.2.2.2.1; omega⟩
  refine x_geq (g' := kmix (kT ρ (kL ρ 0)) (xu gB (142, 0) (some (ta, xAi .int 6 f0)))) (by rw [kT_self]) ?_
  refine x_if_eq hC dL_law_98 (q := 101) rfl (tgt := 127) rfl (fun h98 => ?_) (fun h98 => ?_)
  · exact absurd h98 (by decide)
  refine x_aloadr_n hC dL_law_101 (q := 102) rfl rfl ?_
  refine x_aloadr_n hC dL_law_102 (q := 103) rfl rfl ?_
  refine x_callS hC xv_X0_352 dL_law_103 (q := 106) rfl rfl (m_X0_isCounted h0 ρ (xu gB (142, 0) (some (ta, xAi .int 6 f0))) (kL ρ 0) (hAx f0) hok hLr.1.2.1.1 hLr.1.2.2.1 hLr.1.2.2.2.1 hLr.2.1 (hLx f0 hLr).1.1 hwkr) rfl (Nat.le_of_ble_eq_true rfl) ⟨(by (try dsimp only); omega), (by (try dsimp only); omega)⟩ ⟨(by (try dsimp only); omega), (by (try dsimp only); omega)⟩ (fun v g1 hp => ?_)
  obtain ⟨rfl, f1, hg1⟩ := hp
  subst hg1
  refine x_if_eq hC dL_law_106 (q := 109) rfl (tgt := 127) rfl (fun h106 => ?_) (fun h106 => ?_)
  · exact absurd h106 (by decide)
  refine x_aloadr_n hC dL_law_109 (q := 110) rfl rfl ?_
  refine x_aloadr_n hC dL_law_110 (q := 111) rfl rfl ?_
  refine x_callS hC xv_X0_89 dL_law_111 (q := 114) rfl rfl (m_X0_areThere h0 (kT ρ f1) (xu gB (142, 0) (some (ta, xAi .int 6 f0))) (hAx f0) hok hLr.1.2.1.1 hLr.1.2.2.1 hLr.2.1) rfl (Nat.le_of_ble_eq_true rfl) ⟨(by (try dsimp only); omega), (by (try dsimp only); omega)⟩ ⟨(by (try dsimp only); omega), (by (try dsimp only); omega)⟩ (fun v g1 hp => ?_)
  obtain ⟨rfl, hg1⟩ := hp
  replace hg1 := hg1.symm
  subst hg1
  refine x_if_eq hC dL_law_114 (q := 117) rfl (tgt := 127) rfl (fun h114 => ?_) (fun h114 => ?_)
  · exact absurd h114 (by decide)
  refine x_aloadr_n hC dL_law_117 (q := 118) rfl rfl ?_
  refine x_aloadr_n hC dL_law_118 (q := 119) rfl rfl ?_
  refine x_aloadr hC dL_law_119 (q := 121) rfl rfl ?_
  refine x_callS hC xv_X0_355 dL_law_121 (q := 124) rfl rfl (m_X0_areBrothers h0 (kT ρ f1) (xu gB (142, 0) (some (ta, xAi .int 6 f0))) (hAx f0) hok (show LSt (xu gB (142, 0) (some (ta, xAi .int 6 f0))) α d0 (kT ρ f1) from hLx f0 hLr) (xu_eq _ _ _) hTr) rfl (Nat.le_of_ble_eq_true rfl) ⟨(by (try dsimp only); omega), (by (try dsimp only); omega)⟩ ⟨(by (try dsimp only); omega), (by (try dsimp only); omega)⟩ (fun v g1 hp => ?_)
  obtain ⟨ft, rfl, hft, hg1⟩ := hp
  rw [xu_xu] at hg1
  subst hg1
  refine x_if_ne hC dL_law_124 (q := 127) rfl (tgt := 129) rfl (fun h124 => ?_) (fun h124 => ?_)
  · have hx124 := h124
    refine x_iconst hC dL_law_129 (q := 130) rfl (v := (0)) (by decide) ?_
    refine x_istore hC dL_law_130 (q := 132) rfl rfl ?_
    refine x_loop (S := (fun x : Nat × aEnv => (6700 + 15201 * k + 15200, 1324400 + 94505 * k + 94500, kmix (kT ρ x.2) (xu gB (142, 0) (some (ta, xAi .int 6 ft))), ([some (.ref b), some (.ref sa), some (.ref aa), some (.ref (kA ρ 0 0)), some (.ref ta), some (.int (nI k)), some (.int (nI x.1))] : xL), ([] : List Value)))) (Inv := fun x => x.1 ≤ aI α 0) (μ := fun x => aI α 0 - x.1) ?_ (0, f1) (Nat.zero_le _)
    intro x hj ih2
    obtain ⟨c, f2⟩ := x
    dsimp only at hj ih2 ⊢
    refine x_iload hC dL_law_132 (q := 134) rfl rfl ?_
    refine x_aloadr_n hC dL_law_134 (q := 135) rfl rfl ?_
    refine x_get hC xf_X0_60_0 dL_law_135 (q := 138) rfl (n := (101, 0)) (hatx _ _) rfl ?_
    refine x_icmp_ge hC dL_law_138 (q := 141) rfl (tgt := 168) rfl (fun h138 => ?_) (fun h138 => ?_)
    · have hc1 : c = aI α 0 := by
        have := (nI_leI (a := aI α 0) (b := c) (by omega) (by omega)).mp h138
        omega
      refine x_aloadr_n hC dL_law_168 (q := 169) rfl rfl ?_
      refine x_get hC xf_X0_60_0 dL_law_169 (q := 172) rfl (n := (101, 0)) (hatx _ _) rfl ?_
      refine x_if_le hC dL_law_172 (q := 175) rfl (tgt := 215) rfl (fun h172 => ?_) (fun h172 => ?_)
      · obtain ⟨f4, e4⟩ : ∃ x, x = f2 := ⟨_, rfl⟩
        subst e4
        refine x_iinc hC dL_law_215 (q := 218) rfl rfl (v := nI (k + 1)) (nI_1 k) ?_
        refine x_goto hC dL_law_218 (tgt := 83) rfl ?_
        refine x_widen (k0 := 6700 + 15201 * (k + 1)) (n0 := 1324400 + 94505 * (k + 1)) (by (try dsimp only); omega) (by (try dsimp only); omega) ?_
        exact ih (k + 1, kT ρ f4, ft, _) ⟨by (try dsimp only); omega, hLr, ⟨by have := hAR.2.2.2.1; (try dsimp only); show 0 ≤ kI ρ 3 0; omega, by have := hAR.2.2.2.2.1; (try dsimp only); show kI ρ 3 0 ≤ 5 * ((k + 1 : Nat) : Int); omega⟩, ⟨by have := hAR.2.2.2.2.2.1; (try dsimp only); show 0 ≤ kV ρ 1 0 3; omega, by have := hAR.2.2.2.2.2.2.1; (try dsimp only); show kV ρ 1 0 3 ≤ ((k + 1 : Nat) : Int); omega⟩, fun d hd _ => hft d hd⟩ (by (try dsimp only); omega)
      have hc0 : 0 < aI α 0 := Nat.pos_of_ne_zero (fun w => h172 (by rw [w]; decide))
      refine x_aloadr_n hC dL_law_175 (q := 176) rfl rfl ?_
      refine x_iload hC dL_law_176 (q := 178) rfl rfl ?_
      refine x_aloadr_n hC dL_law_178 (q := 179) rfl rfl ?_
      refine x_get hC xf_X0_60_0 dL_law_179 (q := 182) rfl (n := (101, 0)) (hatx _ _) rfl ?_
      refine x_irem hC dL_law_182 (q := 183) rfl (fun w => absurd (nI_eq0 (by omega) w) (by omega)) ?_
      rw [show (nI k - nI k / nI (aI α 0) * nI (aI α 0) : Int32) = nI (k % aI α 0) from nI_mod (by omega) hc0 (by omega)]
      refine x_iload hC dL_law_183 (q := 185) rfl rfl ?_
      refine x_bipush hC dL_law_185 (q := 187) rfl (v := (6)) (by decide) ?_
      refine x_irem hC dL_law_187 (q := 188) rfl (by decide) ?_
      rw [show (nI k - nI k / 6 * 6 : Int32) = nI (k % 6) from nI_mod (by omega) (by decide) (by decide)]
      refine x_bipush hC dL_law_188 (q := 190) rfl (v := (7)) (by decide) ?_
      refine x_iload hC dL_law_190 (q := 192) rfl rfl ?_
      refine x_imul hC dL_law_192 (q := 193) rfl ?_
      refine x_bipush hC dL_law_193 (q := 195) rfl (v := (50)) (by decide) ?_
      refine x_irem hC dL_law_195 (q := 196) rfl (by decide) ?_
      refine x_bipush hC dL_law_196 (q := 198) rfl (v := (7)) (by decide) ?_
      refine x_iload hC dL_law_198 (q := 200) rfl rfl ?_
      refine x_imul hC dL_law_200 (q := 201) rfl ?_
      refine x_bipush hC dL_law_201 (q := 203) rfl (v := (50)) (by decide) ?_
      refine x_irem hC dL_law_203 (q := 204) rfl (by decide) ?_
      refine x_bipush hC dL_law_204 (q := 206) rfl (v := (40)) (by decide) ?_
      refine x_iadd hC dL_law_206 (q := 207) rfl ?_
      refine x_callS hC xv_X0_363 dL_law_207 (q := 210) rfl rfl (m_X0_areHeats h0 ρ (xu gB (142, 0) (some (ta, xAi .int 6 ft))) f2 (hLx ft hLr).1.1 hLr.1.2.1.1 (c := k % aI α 0) (p := k % 6) (by rw [hLr.2.1.1]; exact Nat.mod_lt _ hc0) (by omega) _ _ (hOx ft (2000, 0) (n_fst rfl) hL0)) rfl (Nat.le_of_ble_eq_true rfl) ⟨(by (try dsimp only); omega), (by (try dsimp only); omega)⟩ ⟨(by (try dsimp only); omega), (by (try dsimp only); omega)⟩ (fun v g1 hp => ?_)
      obtain ⟨rfl, f4, hg1⟩ := hp
      subst hg1
      refine x_if_ne hC dL_law_210 (q := 213) rfl (tgt := 215) rfl (fun h210 => ?_) (fun h210 => ?_)
      · have hx210 := h210
        refine x_iinc hC dL_law_215 (q := 218) rfl rfl (v := nI (k + 1)) (nI_1 k) ?_
        refine x_goto hC dL_law_218 (tgt := 83) rfl ?_
        refine x_widen (k0 := 6700 + 15201 * (k + 1)) (n0 := 1324400 + 94505 * (k + 1)) (by (try dsimp only); omega) (by (try dsimp only); omega) ?_
        exact ih (k + 1, kT ρ f4, ft, _) ⟨by (try dsimp only); omega, hLr, ⟨by have := hAR.2.2.2.1; (try dsimp only); show 0 ≤ kI ρ 3 0; omega, by have := hAR.2.2.2.2.1; (try dsimp only); show kI ρ 3 0 ≤ 5 * ((k + 1 : Nat) : Int); omega⟩, ⟨by have := hAR.2.2.2.2.2.1; (try dsimp only); show 0 ≤ kV ρ 1 0 3; omega, by have := hAR.2.2.2.2.2.2.1; (try dsimp only); show kV ρ 1 0 3 ≤ ((k + 1 : Nat) : Int); omega⟩, fun d hd _ => hft d hd⟩ (by (try dsimp only); omega)
      · exact absurd h210 (by decide)
    have hc1 : c < aI α 0 := Nat.not_le.mp (fun w => h138 (nI_le w (by omega)))
    refine x_aloadr_n hC dL_law_141 (q := 142) rfl rfl ?_
    refine x_aloadr_n hC dL_law_142 (q := 143) rfl rfl ?_
    refine x_iload hC dL_law_143 (q := 145) rfl rfl ?_
    refine x_iload hC dL_law_145 (q := 147) rfl rfl ?_
    refine x_iconst hC dL_law_147 (q := 148) rfl (v := (3)) (by decide) ?_
    refine x_irem hC dL_law_148 (q := 149) rfl (by decide) ?_
    rw [show (nI k - nI k / 3 * 3 : Int32) = nI (k % 3) from nI_mod (by omega) (by decide) (by decide)]
    refine x_iload hC dL_law_149 (q := 151) rfl rfl ?_
    refine x_bipush hC dL_law_151 (q := 153) rfl (v := (6)) (by decide) ?_
    refine x_irem hC dL_law_153 (q := 154) rfl (by decide) ?_
    rw [show (nI k - nI k / 6 * 6 : Int32) = nI (k % 6) from nI_mod (by omega) (by decide) (by decide)]
    refine x_callS hC xv_X0_359 dL_law_154 (q := 157) rfl rfl (m_X0_isTold h0 ρ (xu gB (142, 0) (some (ta, xAi .int 6 ft))) f2 (hAx ft) hok hLr.1.2.1.1 hLr.2.1 (hLx ft hLr).1.1 hc1 (hh := k % 3) (p := k % 6) (by omega) (by omega)) rfl (Nat.le_of_ble_eq_true rfl) ⟨(by (try dsimp only); omega), (by (try dsimp only); omega)⟩ ⟨(by (try dsimp only); omega), (by (try dsimp only); omega)⟩ (fun v g1 hp => ?_)
    obtain ⟨rfl, f3, hg1⟩ := hp
    subst hg1
    refine x_if_ne hC dL_law_157 (q := 160) rfl (tgt := 162) rfl (fun h157 => ?_) (fun h157 => ?_)
    · have hx157 := h157
      refine x_iinc hC dL_law_162 (q := 165) rfl rfl (v := nI (c + 1)) (nI_1 c) ?_
      refine x_goto hC dL_law_165 (tgt := 132) rfl ?_
      exact x_widen (by (try dsimp only); omega) (by (try dsimp only); omega) (ih2 (c + 1, f3) (by (try dsimp only); omega) (by (try dsimp only); omega))
    · exact absurd h157 (by decide)
  · exact absurd h124 (by decide)
