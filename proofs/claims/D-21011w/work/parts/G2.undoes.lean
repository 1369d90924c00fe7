/-! the acts, with their undoing -/
/-- an act, refused or done -/
def Act (gF : xG) (α : aA) (d0 : Nat) (σ : KS) (C : Prop) (r : Option Value) (g1 : xG) : Prop := ∃ ρ, r = some (.int 1) ∧ g1 = kmix ρ gF ∧ (ρ = kRf σ ∨ (Dn gF α d0 σ ρ ∧ kV ρ 1 0 3 = kV σ 1 0 3 ∧ C))
def CS (α : aA) (σ : KS) (c q pl : Nat) : Prop := c < aI α 0 ∧ q < aI α 1 ∧ kI σ 34 c = -1 ∧ pl < kA σ 25 q ∧ kO σ 1 q pl = none
def CTk (α : aA) (σ : KS) (c : Nat) : Prop := c < aI α 0 ∧ ∃ q, kO σ 0 c 0 = some q
def CLi (α : aA) (σ : KS) (q : Nat) (z : Int) : Prop := q < aI α 1 ∧ (-1 ≤ z ∧ z ≤ 20) ∧ kI σ 41 q ≠ z
theorem m_sets {l : Launch} {s0 : State} {D : va_G} (h0 : x0 l s0 D) (σ : KS) (gF : xG) {ad aa d0 : Nat} {α : aA} {I : Nat → Int32} {V : Nat → Nat → Int32} {M : Nat → Nat → Nat → Int32} (hD : DW gF ad I V M) (hA : AH gF aa α) (hok : aOk α) (hL : LSt gF α d0 σ) (hFo : KFo s0 gF d0) (hAF : AF α σ I V M) (c q pl : Nat) (hcb : c < 1000) (hqb : q < 1000) (hpb : pl < 100) : xMet l s0 D yX0_sets cX0_sets 7 (some .boolean) (xr 23 25 340 1300) [.ref (kA σ 0 0), .ref aa, .ref ad, .int (nI c), .int (nI q), .int (nI pl)] (kmix σ gF) (Act gF α d0 σ (CS α σ c q pl)) := by
  have hrf : ∀ r g1, r = some (.int 1) ∧ g1 = kmix (kRf σ) gF → Act gF α d0 σ (CS α σ c q pl) r g1 := fun r g1 h => ⟨kRf σ, h.1, h.2, Or.inl rfl⟩
  by_cases hc : c < aI α 0
  · by_cases hq : q < aI α 1
    · by_cases hraw : kI σ 34 c = -1
      · by_cases hpl : pl < kA σ 25 q
        · cases hn : kO σ 1 q pl with
          | some c2 => exact (m_X0_sets_full h0 σ gF hD hA hok hL.1.2.1 hL.2.1 (hAF.ds hL.1.2.2.2.2.2.2.2.1) hAF.1.2.2.2.1 hc hq hraw hpl hpb hL.1.2.2.1 hn).post hrf
          | none =>
            refine (m_X0_sets_t h0 σ gF hD hA hok hL.1.2.1 hL.2.1 (hAF.ds hL.1.2.2.2.2.2.2.2.1) hAF.1.2.2.2.1 hFo.1 (by have := hL.1.2.2.2.2.2.2.2.1; omega) hFo.n48 (hFo.at 54 0 (by decide) (by decide)) hL.1.2.2.2.2.2.2.1 hL.1.2.2.1 hc hq hraw hpl hpb hn).post ?_
            rintro r g1 ⟨h1, σ1, hk, h2⟩
            have hL1 := hk.LSt hL
            have hm : Mv σ1 (kSet σ1 c q pl) := Mv_set hL1 (by rw [hk.A rfl, hL.2.1.1]; exact hc) (by rw [hk.A rfl, hL.2.1.2.1]; exact hq) (by rw [hk.A rfl]; exact hpl) (by rw [hk.I rfl]; exact hraw) (by rw [hk.O]; exact hn)
            exact ⟨_, h1, h2, Or.inr ⟨Dn.mk hL hk hm, by rw [hm.2.2.2.1]; exact hk.V rfl 0 3, hc, hq, hraw, hpl, hn⟩⟩
        · exact (m_X0_sets_far h0 σ gF hD hA hok hL.1.2.1 hL.2.1 (hAF.ds hL.1.2.2.2.2.2.2.2.1) hAF.1.2.2.2.1 hc hq hraw (by omega) (by omega)).post hrf
      · exact (m_X0_sets_f h0 σ gF hD hA hok hL.1.2.1 hL.2.1 (hAF.ds hL.1.2.2.2.2.2.2.2.1) hAF.1.2.2.2.1 hc hq (nI pl) hraw (by
          have := (hL.1.2.2.2.1.1 c (by rw [hL.2.1.1]; exact hc)).1
          exact ⟨by omega, by omega⟩)).post hrf
    · exact (m_X0_sets_q h0 σ gF hD hA hok hL.1.2.1 hL.2.1 (hAF.ds hL.1.2.2.2.2.2.2.2.1) hAF.1.2.2.2.1 hc (by omega) (by omega) (nI pl)).post hrf
  · exact (m_X0_sets_c h0 σ gF hD hA hok hL.1.2.1 hL.2.1 (hAF.ds hL.1.2.2.2.2.2.2.2.1) hAF.1.2.2.2.1 (by omega) (by omega) (nI pl)).post hrf
theorem m_takes {l : Launch} {s0 : State} {D : va_G} (h0 : x0 l s0 D) (σ : KS) (gF : xG) {ad aa d0 : Nat} {α : aA} {I : Nat → Int32} {V : Nat → Nat → Int32} {M : Nat → Nat → Nat → Int32} (hD : DW gF ad I V M) (hA : AH gF aa α) (hok : aOk α) (hL : LSt gF α d0 σ) (hFo : KFo s0 gF d0) (hAF : AF α σ I V M) (c : Nat) (hcb : c < 1000) : xMet l s0 D yX0_takes cX0_takes 5 (some .boolean) (xr 23 25 340 1300) [.ref (kA σ 0 0), .ref aa, .ref ad, .int (nI c)] (kmix σ gF) (Act gF α d0 σ (CTk α σ c)) := by
  have hrf : ∀ r g1, r = some (.int 1) ∧ g1 = kmix (kRf σ) gF → Act gF α d0 σ (CTk α σ c) r g1 := fun r g1 h => ⟨kRf σ, h.1, h.2, Or.inl rfl⟩
  by_cases hc : c < aI α 0
  · cases hn : kO σ 0 c 0 with
    | none => exact (m_X0_takes_n h0 σ gF hD hA hok hL.1.2.1 hL.2.1 (hAF.ds hL.1.2.2.2.2.2.2.2.1) hAF.1.2.2.2.1 hc hn).post hrf
    | some q =>
      refine (m_X0_takes_t h0 σ gF hD hA hok hL.1.2.1 hL.2.1 (hAF.ds hL.1.2.2.2.2.2.2.2.1) hAF.1.2.2.2.1 hFo.1 (by have := hL.1.2.2.2.2.2.2.2.1; omega) hFo.n48 (hFo.at 54 0 (by decide) (by decide)) hL.1.2.2.2.2.2.2.1 hL.1.2.2.1 hc hn).post ?_
      rintro r g1 ⟨h1, σ1, hk, h2⟩
      have hL1 := hk.LSt hL
      have hm : Mv σ1 (kGo σ1 c) := Mv_take hL1 (by rw [hk.A rfl, hL.2.1.1]; exact hc)
      exact ⟨_, h1, h2, Or.inr ⟨Dn.mk hL hk hm, by rw [hm.2.2.2.1]; exact hk.V rfl 0 3, hc, q, hn⟩⟩
  · exact (m_X0_takes_o h0 σ gF hD hA hok hL.1.2.1 hL.2.1 (hAF.ds hL.1.2.2.2.2.2.2.2.1) hAF.1.2.2.2.1 (by omega) (by omega)).post hrf
theorem m_lights {l : Launch} {s0 : State} {D : va_G} (h0 : x0 l s0 D) (σ : KS) (gF : xG) {ad aa d0 : Nat} {α : aA} {I : Nat → Int32} {V : Nat → Nat → Int32} {M : Nat → Nat → Nat → Int32} (hD : DW gF ad I V M) (hA : AH gF aa α) (hok : aOk α) (hL : LSt gF α d0 σ) (hFo : KFo s0 gF d0) (hAF : AF α σ I V M) (q : Nat) (z : Int) (hqb : q < 1000) (hz : -1 ≤ z ∧ z ≤ 20) : xMet l s0 D yX0_lights cX0_lights 6 (some .boolean) (xr 23 25 340 1300) [.ref (kA σ 0 0), .ref aa, .ref ad, .int (nI q), .int (iI z)] (kmix σ gF) (Act gF α d0 σ (CLi α σ q z)) := by
  have hrf : ∀ r g1, r = some (.int 1) ∧ g1 = kmix (kRf σ) gF → Act gF α d0 σ (CLi α σ q z) r g1 := fun r g1 h => ⟨kRf σ, h.1, h.2, Or.inl rfl⟩
  by_cases hq : q < aI α 1
  · by_cases hn : kI σ 41 q = z
    · exact (m_X0_lights_n h0 σ gF hD hA hok hL.1.2.1 hL.2.1 (hAF.ds hL.1.2.2.2.2.2.2.2.1) hAF.1.2.2.2.1 hq hz hn).post hrf
    · have h41 := hL.1.2.2.2.1.2 q (by rw [hL.2.1.2.1]; exact hq)
      refine (m_X0_lights_t h0 σ gF hD hA hok hL.1.2.1 hL.2.1 (hAF.ds hL.1.2.2.2.2.2.2.2.1) hAF.1.2.2.2.1 hFo.1 (by have := hL.1.2.2.2.2.2.2.2.1; omega) hFo.n48 (hFo.at 54 0 (by decide) (by decide)) hL.1.2.2.2.2.2.2.1 hq hz ⟨by omega, by omega⟩ hn).post ?_
      rintro r g1 ⟨h1, σ1, hk, h2⟩
      have hL1 := hk.LSt hL
      have hm : Mv σ1 (kIs σ1 41 q z) := Mv_light hL1 (by rw [hk.A rfl, hL.2.1.2.1]; exact hq) hz
      exact ⟨_, h1, h2, Or.inr ⟨Dn.mk hL hk hm, by rw [hm.2.2.2.1]; exact hk.V rfl 0 3, hq, hz, hn⟩⟩
  · exact (m_X0_lights_o h0 σ gF hD hA hok hL.1.2.1 hL.2.1 (hAF.ds hL.1.2.2.2.2.2.2.2.1) hAF.1.2.2.2.1 (by omega) (by omega) (iI z)).post hrf
/-! an act again, behind its undoing -/
theorem again_set {l : Launch} {s0 : State} {D : va_G} (h0 : x0 l s0 D) (gF : xG) {d0 : Nat} {α : aA} {σ σ2 : KS} (hFo : KFo s0 gF d0) (hL : LSt gF α d0 σ2) (hB : Bk σ σ2) {c q pl : Nat} (hC : CS α σ c q pl) : xMet l s0 D yX2_set cX2_set 6 (some .boolean) (xr 22 25 340 1200) [.ref (kA σ2 0 0), .int (nI c), .int (nI q), .int (nI pl)] (kmix σ2 gF) (fun r g1 => ∃ ρ, r = some (.int 1) ∧ AR gF α d0 σ ρ ∧ g1 = kmix ρ gF) := by
  obtain ⟨h1, h2, h3, h4, h5⟩ := hC
  have hc : c < kA σ2 61 0 := by rw [hL.2.1.1]; exact h1
  have hq : q < kA σ2 62 0 := by rw [hL.2.1.2.1]; exact h2
  have hr : kI σ2 34 c = -1 := by rw [hB.1.1 34 c rfl]; exact h3
  have hp : pl < kA σ2 25 q := by rw [hB.1.2.2.1]; exact h4
  have hn : kO σ2 1 q pl = none := by rw [hB.1.2.1]; exact h5
  refine (m_X2_set_t h0 σ2 gF hL.1.2.1 hFo.1 (by have := hL.1.2.2.2.2.2.2.2.1; omega) hFo.n48 (hFo.at 54 0 (by decide) (by decide)) hL.1.2.2.2.2.2.2.1 c hc q hq pl hr hp hn).post ?_
  rintro r g1 ⟨σ3, e1, hk, e2⟩
  have hL3 := hk.LSt hL
  have hm : Mv σ3 (kSet σ3 c q pl) := Mv_set hL3 (by rw [hk.A rfl]; exact hc) (by rw [hk.A rfl]; exact hq) (by rw [hk.A rfl]; exact hp) (by rw [hk.I rfl]; exact hr) (by rw [hk.O]; exact hn)
  exact ⟨_, e1, ((hm.ar hL3).bk hk.Bk).bk hB, e2⟩
theorem again_take {l : Launch} {s0 : State} {D : va_G} (h0 : x0 l s0 D) (gF : xG) {d0 : Nat} {α : aA} {σ σ2 : KS} (hFo : KFo s0 gF d0) (hL : LSt gF α d0 σ2) (hB : Bk σ σ2) {c : Nat} (hC : CTk α σ c) : xMet l s0 D yX2_take cX2_take 3 (some .boolean) (xr 22 25 340 1200) [.ref (kA σ2 0 0), .int (nI c)] (kmix σ2 gF) (fun r g1 => ∃ ρ, r = some (.int 1) ∧ AR gF α d0 σ ρ ∧ g1 = kmix ρ gF) := by
  obtain ⟨h1, q, h2⟩ := hC
  have hc : c < kA σ2 61 0 := by rw [hL.2.1.1]; exact h1
  refine (m_X2_take_t h0 σ2 gF hL.1.2.1 hFo.1 (by have := hL.1.2.2.2.2.2.2.2.1; omega) hFo.n48 (hFo.at 54 0 (by decide) (by decide)) hL.1.2.2.2.2.2.2.1 c hc (by rw [hB.1.2.1, h2]; exact fun w => by cases w)).post ?_
  rintro r g1 ⟨σ3, e1, hk, e2⟩
  have hL3 := hk.LSt hL
  have hm : Mv σ3 (kGo σ3 c) := Mv_take hL3 (by rw [hk.A rfl]; exact hc)
  exact ⟨_, e1, ((hm.ar hL3).bk hk.Bk).bk hB, e2⟩
theorem again_light {l : Launch} {s0 : State} {D : va_G} (h0 : x0 l s0 D) (gF : xG) {d0 : Nat} {α : aA} {σ σ2 : KS} (hFo : KFo s0 gF d0) (hL : LSt gF α d0 σ2) (hB : Bk σ σ2) {q : Nat} {z : Int} (hC : CLi α σ q z) : xMet l s0 D yX2_light cX2_light 4 (some .boolean) (xr 22 25 340 1200) [.ref (kA σ2 0 0), .int (nI q), .int (iI z)] (kmix σ2 gF) (fun r g1 => ∃ ρ, r = some (.int 1) ∧ AR gF α d0 σ ρ ∧ g1 = kmix ρ gF) := by
  obtain ⟨h1, h2, h3⟩ := hC
  have hq : q < kA σ2 62 0 := by rw [hL.2.1.2.1]; exact h1
  have h41 := hL.1.2.2.2.1.2 q hq
  refine (m_X2_light_t h0 σ2 gF hL.1.2.1 hFo.1 (by have := hL.1.2.2.2.2.2.2.2.1; omega) hFo.n48 (hFo.at 54 0 (by decide) (by decide)) hL.1.2.2.2.2.2.2.1 q hq z ⟨by omega, by omega⟩ h2 ⟨by omega, by omega⟩ (by rw [hB.1.1 41 q rfl]; exact h3)).post ?_
  rintro r g1 ⟨σ3, e1, hk, e2⟩
  have hL3 := hk.LSt hL
  have hm : Mv σ3 (kIs σ3 41 q z) := Mv_light hL3 (by rw [hk.A rfl]; exact hq) h2
  exact ⟨_, e1, ((hm.ar hL3).bk hk.Bk).bk hB, e2⟩

set_option maxHeartbeats 4000000 in
set_option maxRecDepth 100000 in
theorem m_undoes_s {l : Launch} {s0 : State} {D : va_G} (h0 : x0 l s0 D) (σ ρ : KS) (gF : xG) {ad aa d0 : Nat} {α : aA} {I : Nat → Int32} {V : Nat → Nat → Int32} {M : Nat → Nat → Nat → Int32} (hD : DW gF ad I V M) (hA : AH gF aa α) (hok : aOk α) (hL : LSt gF α d0 σ) (hFo : KFo s0 gF d0) (hAF : AF α σ I V M) (hDn : Dn gF α d0 σ ρ) {c q pl : Nat} (hCs : CS α σ c q pl) : xMet l s0 D yX0_undoes cX0_undoes 7 (some .boolean) (xr 23 25 340 1300) [.ref (kA ρ 0 0), .ref aa, .ref ad, .int 0, .int (nI c), .int (nI q), .int (nI pl)] (kmix ρ gF) (fun r g1 => ∃ ρ2, r = some (.int 1) ∧ AR gF α d0 σ ρ2 ∧ g1 = kmix ρ2 gF) := by
  refine xMet.of h0 (by decide +kernel) rfl ?_
  intro zp ze zs zm za zb zf zc hC hr hnm
  refine x_aloadr_n hC dX0_undoes_0 (q := 1) rfl rfl ?_
  refine x_callV hC xv_X0_244 dX0_undoes_1 (q := 4) rfl rfl (m_undo_D h0 gF hFo hL hDn) (nn := (0, 0)) rfl rfl rfl (Nat.le_of_ble_eq_true rfl) ⟨(by (try dsimp only); omega), (by (try dsimp only); omega)⟩ ⟨(by (try dsimp only); omega), (by (try dsimp only); omega)⟩ (fun v g1 hp => ?_)
  obtain ⟨σ2, rfl, hg1, hL2, hB2⟩ := hp
  subst hg1
  rw [show kA ρ 0 0 = kA σ2 0 0 from by
    obtain ⟨-, -, -, -, h⟩ := hDn
    exact h.2.1.trans hB2.2.2.2.2.1.symm]
  refine x_if_eq hC dX0_undoes_4 (q := 7) rfl (tgt := 18) rfl (fun h4 => ?_) (fun h4 => ?_)
  · exact absurd h4 (by decide)
  refine x_aloadr_n hC dX0_undoes_7 (q := 8) rfl rfl ?_
  refine x_aloadr_n hC dX0_undoes_8 (q := 9) rfl rfl ?_
  refine x_aloadr_n hC dX0_undoes_9 (q := 10) rfl rfl ?_
  refine x_iconst hC dX0_undoes_10 (q := 11) rfl (v := (-1)) (by decide) ?_
  refine x_iconst hC dX0_undoes_11 (q := 12) rfl (v := (-1)) (by decide) ?_
  refine x_callV hC xv_X0_191 dX0_undoes_12 (q := 15) rfl rfl (m_same_W h0 gF hD hA hok hAF hL2 hB2) (nn := (120, 0)) (DWo hD) rfl rfl (Nat.le_of_ble_eq_true rfl) ⟨(by (try dsimp only); omega), (by (try dsimp only); omega)⟩ ⟨(by (try dsimp only); omega), (by (try dsimp only); omega)⟩ (fun v g1 hp => ?_)
  obtain ⟨rfl, hg1⟩ := hp
  replace hg1 := hg1.symm
  subst hg1
  refine x_if_ne hC dX0_undoes_15 (q := 18) rfl (tgt := 20) rfl (fun h15 => ?_) (fun h15 => ?_)
  · have hx15 := h15
    refine x_iload_n hC dX0_undoes_20 (q := 21) rfl rfl ?_
    refine x_if_ne hC dX0_undoes_21 (q := 24) rfl (tgt := 37) rfl (fun h21 => ?_) (fun h21 => ?_)
    · exact absurd rfl h21
    have hx21 := h21
    refine x_aloadr_n hC dX0_undoes_24 (q := 25) rfl rfl ?_
    refine x_iload hC dX0_undoes_25 (q := 27) rfl rfl ?_
    refine x_iload hC dX0_undoes_27 (q := 29) rfl rfl ?_
    refine x_iload hC dX0_undoes_29 (q := 31) rfl rfl ?_
    refine x_callV hC xv_X0_170 dX0_undoes_31 (q := 34) rfl rfl (again_set h0 gF hFo hL2 hB2 hCs) (nn := (0, 0)) rfl rfl rfl (Nat.le_of_ble_eq_true rfl) ⟨(by (try dsimp only); omega), (by (try dsimp only); omega)⟩ ⟨(by (try dsimp only); omega), (by (try dsimp only); omega)⟩ (fun v g1 hp => ?_)
    obtain ⟨ρ2, rfl, hAR, hg1⟩ := hp
    subst hg1
    refine x_goto hC dX0_undoes_34 (tgt := 59) rfl ?_
    exact x_zret hC hr rfl dX0_undoes_59 (by (try dsimp only); omega) (by (try dsimp only); omega) ⟨ρ2, rfl, hAR, rfl⟩
  · exact absurd h15 (by decide)

set_option maxHeartbeats 4000000 in
set_option maxRecDepth 100000 in
theorem m_undoes_t {l : Launch} {s0 : State} {D : va_G} (h0 : x0 l s0 D) (σ ρ : KS) (gF : xG) {ad aa d0 : Nat} {α : aA} {I : Nat → Int32} {V : Nat → Nat → Int32} {M : Nat → Nat → Nat → Int32} (hD : DW gF ad I V M) (hA : AH gF aa α) (hok : aOk α) (hL : LSt gF α d0 σ) (hFo : KFo s0 gF d0) (hAF : AF α σ I V M) (hDn : Dn gF α d0 σ ρ) {c : Nat} (y z : Int32) (hCs : CTk α σ c) : xMet l s0 D yX0_undoes cX0_undoes 7 (some .boolean) (xr 23 25 340 1300) [.ref (kA ρ 0 0), .ref aa, .ref ad, .int 1, .int (nI c), .int y, .int z] (kmix ρ gF) (fun r g1 => ∃ ρ2, r = some (.int 1) ∧ AR gF α d0 σ ρ2 ∧ g1 = kmix ρ2 gF) := by
  refine xMet.of h0 (by decide +kernel) rfl ?_
  intro zp ze zs zm za zb zf zc hC hr hnm
  refine x_aloadr_n hC dX0_undoes_0 (q := 1) rfl rfl ?_
  refine x_callV hC xv_X0_244 dX0_undoes_1 (q := 4) rfl rfl (m_undo_D h0 gF hFo hL hDn) (nn := (0, 0)) rfl rfl rfl (Nat.le_of_ble_eq_true rfl) ⟨(by (try dsimp only); omega), (by (try dsimp only); omega)⟩ ⟨(by (try dsimp only); omega), (by (try dsimp only); omega)⟩ (fun v g1 hp => ?_)
  obtain ⟨σ2, rfl, hg1, hL2, hB2⟩ := hp
  subst hg1
  rw [show kA ρ 0 0 = kA σ2 0 0 from by
    obtain ⟨-, -, -, -, h⟩ := hDn
    exact h.2.1.trans hB2.2.2.2.2.1.symm]
  refine x_if_eq hC dX0_undoes_4 (q := 7) rfl (tgt := 18) rfl (fun h4 => ?_) (fun h4 => ?_)
  · exact absurd h4 (by decide)
  refine x_aloadr_n hC dX0_undoes_7 (q := 8) rfl rfl ?_
  refine x_aloadr_n hC dX0_undoes_8 (q := 9) rfl rfl ?_
  refine x_aloadr_n hC dX0_undoes_9 (q := 10) rfl rfl ?_
  refine x_iconst hC dX0_undoes_10 (q := 11) rfl (v := (-1)) (by decide) ?_
  refine x_iconst hC dX0_undoes_11 (q := 12) rfl (v := (-1)) (by decide) ?_
  refine x_callV hC xv_X0_191 dX0_undoes_12 (q := 15) rfl rfl (m_same_W h0 gF hD hA hok hAF hL2 hB2) (nn := (120, 0)) (DWo hD) rfl rfl (Nat.le_of_ble_eq_true rfl) ⟨(by (try dsimp only); omega), (by (try dsimp only); omega)⟩ ⟨(by (try dsimp only); omega), (by (try dsimp only); omega)⟩ (fun v g1 hp => ?_)
  obtain ⟨rfl, hg1⟩ := hp
  replace hg1 := hg1.symm
  subst hg1
  refine x_if_ne hC dX0_undoes_15 (q := 18) rfl (tgt := 20) rfl (fun h15 => ?_) (fun h15 => ?_)
  · have hx15 := h15
    refine x_iload_n hC dX0_undoes_20 (q := 21) rfl rfl ?_
    refine x_if_ne hC dX0_undoes_21 (q := 24) rfl (tgt := 37) rfl (fun h21 => ?_) (fun h21 => ?_)
    · have hx21 := h21
      refine x_iload_n hC dX0_undoes_37 (q := 38) rfl rfl ?_
      refine x_iconst hC dX0_undoes_38 (q := 39) rfl (v := (1)) (by decide) ?_
      refine x_icmp_ne hC dX0_undoes_39 (q := 42) rfl (tgt := 51) rfl (fun h39 => ?_) (fun h39 => ?_)
      · exact absurd rfl h39
      have hx39 := h39
      refine x_aloadr_n hC dX0_undoes_42 (q := 43) rfl rfl ?_
      refine x_iload hC dX0_undoes_43 (q := 45) rfl rfl ?_
      refine x_callV hC xv_X0_178 dX0_undoes_45 (q := 48) rfl rfl (again_take h0 gF hFo hL2 hB2 hCs) (nn := (0, 0)) rfl rfl rfl (Nat.le_of_ble_eq_true rfl) ⟨(by (try dsimp only); omega), (by (try dsimp only); omega)⟩ ⟨(by (try dsimp only); omega), (by (try dsimp only); omega)⟩ (fun v g1 hp => ?_)
      obtain ⟨ρ2, rfl, hAR, hg1⟩ := hp
      subst hg1
      refine x_goto hC dX0_undoes_48 (tgt := 59) rfl ?_
      exact x_zret hC hr rfl dX0_undoes_59 (by (try dsimp only); omega) (by (try dsimp only); omega) ⟨ρ2, rfl, hAR, rfl⟩
    · exact absurd h21 (by decide)
  · exact absurd h15 (by decide)

set_option maxHeartbeats 4000000 in
set_option maxRecDepth 100000 in
theorem m_undoes_l {l : Launch} {s0 : State} {D : va_G} (h0 : x0 l s0 D) (σ ρ : KS) (gF : xG) {ad aa d0 : Nat} {α : aA} {I : Nat → Int32} {V : Nat → Nat → Int32} {M : Nat → Nat → Nat → Int32} (hD : DW gF ad I V M) (hA : AH gF aa α) (hok : aOk α) (hL : LSt gF α d0 σ) (hFo : KFo s0 gF d0) (hAF : AF α σ I V M) (hDn : Dn gF α d0 σ ρ) (x : Int32) {q : Nat} {z : Int} (hCs : CLi α σ q z) : xMet l s0 D yX0_undoes cX0_undoes 7 (some .boolean) (xr 23 25 340 1300) [.ref (kA ρ 0 0), .ref aa, .ref ad, .int 2, .int x, .int (nI q), .int (iI z)] (kmix ρ gF) (fun r g1 => ∃ ρ2, r = some (.int 1) ∧ AR gF α d0 σ ρ2 ∧ g1 = kmix ρ2 gF) := by
  refine xMet.of h0 (by decide +kernel) rfl ?_
  intro zp ze zs zm za zb zf zc hC hr hnm
  refine x_aloadr_n hC dX0_undoes_0 (q := 1) rfl rfl ?_
  refine x_callV hC xv_X0_244 dX0_undoes_1 (q := 4) rfl rfl (m_undo_D h0 gF hFo hL hDn) (nn := (0, 0)) rfl rfl rfl (Nat.le_of_ble_eq_true rfl) ⟨(by (try dsimp only); omega), (by (try dsimp only); omega)⟩ ⟨(by (try dsimp only); omega), (by (try dsimp only); omega)⟩ (fun v g1 hp => ?_)
  obtain ⟨σ2, rfl, hg1, hL2, hB2⟩ := hp
  subst hg1
  rw [show kA ρ 0 0 = kA σ2 0 0 from by
    obtain ⟨-, -, -, -, h⟩ := hDn
    exact h.2.1.trans hB2.2.2.2.2.1.symm]
  refine x_if_eq hC dX0_undoes_4 (q := 7) rfl (tgt := 18) rfl (fun h4 => ?_) (fun h4 => ?_)
  · exact absurd h4 (by decide)
  refine x_aloadr_n hC dX0_undoes_7 (q := 8) rfl rfl ?_
  refine x_aloadr_n hC dX0_undoes_8 (q := 9) rfl rfl ?_
  refine x_aloadr_n hC dX0_undoes_9 (q := 10) rfl rfl ?_
  refine x_iconst hC dX0_undoes_10 (q := 11) rfl (v := (-1)) (by decide) ?_
  refine x_iconst hC dX0_undoes_11 (q := 12) rfl (v := (-1)) (by decide) ?_
  refine x_callV hC xv_X0_191 dX0_undoes_12 (q := 15) rfl rfl (m_same_W h0 gF hD hA hok hAF hL2 hB2) (nn := (120, 0)) (DWo hD) rfl rfl (Nat.le_of_ble_eq_true rfl) ⟨(by (try dsimp only); omega), (by (try dsimp only); omega)⟩ ⟨(by (try dsimp only); omega), (by (try dsimp only); omega)⟩ (fun v g1 hp => ?_)
  obtain ⟨rfl, hg1⟩ := hp
  replace hg1 := hg1.symm
  subst hg1
  refine x_if_ne hC dX0_undoes_15 (q := 18) rfl (tgt := 20) rfl (fun h15 => ?_) (fun h15 => ?_)
  · have hx15 := h15
    refine x_iload_n hC dX0_undoes_20 (q := 21) rfl rfl ?_
    refine x_if_ne hC dX0_undoes_21 (q := 24) rfl (tgt := 37) rfl (fun h21 => ?_) (fun h21 => ?_)
    · have hx21 := h21
      refine x_iload_n hC dX0_undoes_37 (q := 38) rfl rfl ?_
      refine x_iconst hC dX0_undoes_38 (q := 39) rfl (v := (1)) (by decide) ?_
      refine x_icmp_ne hC dX0_undoes_39 (q := 42) rfl (tgt := 51) rfl (fun h39 => ?_) (fun h39 => ?_)
      · have hx39 := h39
        refine x_aloadr_n hC dX0_undoes_51 (q := 52) rfl rfl ?_
        refine x_iload hC dX0_undoes_52 (q := 54) rfl rfl ?_
        refine x_iload hC dX0_undoes_54 (q := 56) rfl rfl ?_
        refine x_callV hC xv_X0_181 dX0_undoes_56 (q := 59) rfl rfl (again_light h0 gF hFo hL2 hB2 hCs) (nn := (0, 0)) rfl rfl rfl (Nat.le_of_ble_eq_true rfl) ⟨(by (try dsimp only); omega), (by (try dsimp only); omega)⟩ ⟨(by (try dsimp only); omega), (by (try dsimp only); omega)⟩ (fun v g1 hp => ?_)
        obtain ⟨ρ2, rfl, hAR, hg1⟩ := hp
        subst hg1
        exact x_zret hC hr rfl dX0_undoes_59 (by (try dsimp only); omega) (by (try dsimp only); omega) ⟨ρ2, rfl, hAR, rfl⟩
      · exact absurd h39 (by decide)
    · exact absurd h21 (by decide)
  · exact absurd h15 (by decide)
