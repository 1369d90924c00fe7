/-! a whole town is read -/
abbrev sX : Type := tS × (Nat → Option (aEnv → Int64))
/-- one statement -/
def sStep (X : sX) (tk : List Tk) (X1 : sX) (ts : List Tk) : Prop :=
  (∃ w1 w2, tk = (1, cW 1) :: (1, ncw (tnc X.1)) :: (1, cW 2) :: (2, w1) :: (1, cW 3) :: (2, w2) :: (3, [59]) :: ts ∧ sN w1 ≤ 99 ∧ sN w2 ≤ 9 ∧ tnc X.1 < 6 ∧ X1 = (tMore (tKidS X.1 (sN w1) (sN w2)), X.2)) ∨
  (∃ w1, tk = (1, cW 4) :: (1, nkw (tnk X.1)) :: (1, cW 5) :: (2, w1) :: (3, [59]) :: ts ∧ 1 ≤ sN w1 ∧ sN w1 ≤ 6 ∧ tnk X.1 < 3 ∧ X1 = (tMore (tKlnS X.1 (sN w1)), X.2)) ∨
  (∃ tk0 r0, tk = (1, cW 6) :: tk0 ∧ (pLv 2 4 1).1 tk0 = some r0 ∧ r0.2.2 = (3, [59]) :: ts ∧ r0.2.1 ≤ 6 ∧ X.2 0 = none ∧ X1 = (tMore X.1, fun i => if i = 0 then some r0.1 else X.2 i)) ∨ (∃ tk0 r0, tk = (1, cW 14) :: tk0 ∧ (pLv 2 5 1).2 tk0 = some r0 ∧ r0.2.2 = (3, [59]) :: ts ∧ r0.2.1 ≤ 6 ∧ X.2 2 = none ∧ X1 = (tMore X.1, fun i => if i = 2 then some r0.1 else X.2 i)) ∨ (∃ tk0 r0, tk = (1, cW 15) :: tk0 ∧ (pLv 6 7 1).2 tk0 = some r0 ∧ r0.2.2 = (3, [59]) :: ts ∧ r0.2.1 ≤ 6 ∧ X.2 3 = none ∧ X1 = (tMore X.1, fun i => if i = 3 then some r0.1 else X.2 i)) ∨ (∃ tk0 r0, tk = (1, cW 16) :: tk0 ∧ (pLv 8 9 1).1 tk0 = some r0 ∧ r0.2.2 = (3, [59]) :: ts ∧ r0.2.1 ≤ 6 ∧ X.2 1 = none ∧ X1 = (tMore X.1, fun i => if i = 1 then some r0.1 else X.2 i)) ∨ (∃ w1, tk = (1, cW 17) :: (2, w1) :: (3, [59]) :: ts ∧ sN w1 ≤ 999 ∧ X1 = (tMore (tNumS X.1 0 (sN w1)), X.2)) ∨ (∃ w1, tk = (1, cW 18) :: (2, w1) :: (3, [59]) :: ts ∧ sN w1 ≤ 999 ∧ X1 = (tMore (tNumS X.1 1 (sN w1)), X.2)) ∨ (∃ w1, tk = (1, cW 19) :: (2, w1) :: (3, [59]) :: ts ∧ sN w1 ≤ 100 ∧ X1 = (tMore (tNumS X.1 2 (sN w1)), X.2))
def sRun : Nat → sX → List Tk → sX → Prop
  | 0, X, tk, X1 => tk = [] ∧ X1 = X
  | n + 1, X, tk, X1 => ∃ X2 ts, sStep X tk X2 ts ∧ sRun n X2 ts X1
theorem sStep_len {X X1 : sX} {tk ts : List Tk} (h : sStep X tk X1 ts) : ts.length + 3 ≤ tk.length := by
  rcases h with ⟨w1, w2, rfl, -⟩ | ⟨w1, rfl, -⟩ | ⟨tk0, r0, rfl, h1, h2, -⟩ | ⟨tk0, r0, rfl, h1, h2, -⟩ | ⟨tk0, r0, rfl, h1, h2, -⟩ | ⟨tk0, r0, rfl, h1, h2, -⟩ | ⟨w1, rfl, -⟩ | ⟨w1, rfl, -⟩ | ⟨w1, rfl, -⟩
  · simp only [List.length_cons]; omega
  · simp only [List.length_cons]; omega
  · have := (pLen_Lv 2 4 1).1 _ _ h1
    rw [h2] at this
    simp only [List.length_cons] at *; omega
  · have := (pLen_Lv 2 5 1).2 _ _ h1
    rw [h2] at this
    simp only [List.length_cons] at *; omega
  · have := (pLen_Lv 6 7 1).2 _ _ h1
    rw [h2] at this
    simp only [List.length_cons] at *; omega
  · have := (pLen_Lv 8 9 1).1 _ _ h1
    rw [h2] at this
    simp only [List.length_cons] at *; omega
  · simp only [List.length_cons]; omega
  · simp only [List.length_cons]; omega
  · simp only [List.length_cons]; omega
theorem sStep_st {X X1 : sX} {tk ts : List Tk} (h : sStep X tk X1 ts) : tst X1.1 = tst X.1 + 1 := by
  rcases h with ⟨w1, w2, -, -, -, -, rfl⟩ | ⟨w1, -, -, -, -, rfl⟩ | ⟨tk0, r0, -, -, -, -, -, rfl⟩ | ⟨tk0, r0, -, -, -, -, -, rfl⟩ | ⟨tk0, r0, -, -, -, -, -, rfl⟩ | ⟨tk0, r0, -, -, -, -, -, rfl⟩ | ⟨w1, -, -, rfl⟩ | ⟨w1, -, -, rfl⟩ | ⟨w1, -, -, rfl⟩ <;> rfl
theorem m_X5_statement {l : Launch} {s0 : State} {D : va_G} (h0 : x0 l s0 D) (g : xG) {sc : Nat} {Z : Nat × Nat × Nat} {tx : List Nat} {A V B : Nat → Nat} {d0 N fr to : Nat} {X X1 : sX} (hI : TI s0 g Z tx A V B d0 N X.1 X.2) (hst : tst X.1 < 80) {tk ts : List Tk} {sn : Bool} (hs : sStep X tk X1 ts) (hq : PSt g sc Z tx fr to 0 sn tk) : xMet l s0 D yX5_statement cX5_statement 2 none (xr 60 (30 * (tk.length - ts.length)) (5600 * (tk.length - ts.length)) 2000) [.ref sc] g (fun r g1 => ∃ N1 fr1 to1, r = none ∧ N ≤ N1 ∧ TI s0 g1 Z tx A V B d0 N1 X1.1 X1.2 ∧ PSt g1 sc Z tx fr1 to1 0 false ts ∧ FX rdP g g1) := by
  have hlen := sStep_len hs
  rcases hs with ⟨w1, w2, rfl, h1, h2, h3, rfl⟩ | ⟨w1, rfl, h1, h2, h3, rfl⟩ | ⟨tk0, r0, rfl, h1, h2, h3, h4, rfl⟩ | ⟨tk0, r0, rfl, h1, h2, h3, h4, rfl⟩ | ⟨tk0, r0, rfl, h1, h2, h3, h4, rfl⟩ | ⟨tk0, r0, rfl, h1, h2, h3, h4, rfl⟩ | ⟨w1, rfl, h1, rfl⟩ | ⟨w1, rfl, h1, rfl⟩ | ⟨w1, rfl, h1, rfl⟩
  · exact (m_X5_statement_child h0 g hI hst h1 h2 h3 hq).room (Nat.le_refl _) (by show 24 ≤ _; simp only [List.length_cons] at *; omega) (by show 400 ≤ _; simp only [List.length_cons] at *; omega) (Nat.le_refl _)
  · exact (m_X5_statement_kiln h0 g hI hst h1 h2 h3 hq).room (Nat.le_refl _) (by show 24 ≤ _; simp only [List.length_cons] at *; omega) (by show 400 ≤ _; simp only [List.length_cons] at *; omega) (Nat.le_refl _)
  · have h9 := (pLen_Lv 2 4 1).1 _ _ h1
    have h8 : r0.2.2.length = ts.length + 1 := by rw [h2]; rfl
    exact (m_X5_statement_temper h0 g hI hst h1 h2 h3 (by decide) h4 hq).room (Nat.le_refl _) (by show 24 + 20 * _ ≤ 30 * _; simp only [List.length_cons] at *; omega) (by show 400 + 5000 * _ ≤ 5600 * _; simp only [List.length_cons] at *; omega) (Nat.le_refl _)
  · have h9 := (pLen_Lv 2 5 1).2 _ _ h1
    have h8 : r0.2.2.length = ts.length + 1 := by rw [h2]; rfl
    exact (m_X5_statement_cracks h0 g hI hst h1 h2 h3 (by decide) h4 hq).room (Nat.le_refl _) (by show 24 + 20 * _ ≤ 30 * _; simp only [List.length_cons] at *; omega) (by show 400 + 5000 * _ ≤ 5600 * _; simp only [List.length_cons] at *; omega) (Nat.le_refl _)
  · have h9 := (pLen_Lv 6 7 1).2 _ _ h1
    have h8 : r0.2.2.length = ts.length + 1 := by rw [h2]; rfl
    exact (m_X5_statement_sticks h0 g hI hst h1 h2 h3 (by decide) h4 hq).room (Nat.le_refl _) (by show 24 + 20 * _ ≤ 30 * _; simp only [List.length_cons] at *; omega) (by show 400 + 5000 * _ ≤ 5600 * _; simp only [List.length_cons] at *; omega) (Nat.le_refl _)
  · have h9 := (pLen_Lv 8 9 1).1 _ _ h1
    have h8 : r0.2.2.length = ts.length + 1 := by rw [h2]; rfl
    exact (m_X5_statement_burns h0 g hI hst h1 h2 h3 (by decide) h4 hq).room (Nat.le_refl _) (by show 24 + 20 * _ ≤ 30 * _; simp only [List.length_cons] at *; omega) (by show 400 + 5000 * _ ≤ 5600 * _; simp only [List.length_cons] at *; omega) (Nat.le_refl _)
  · exact (m_X5_statement_fuel h0 g hI hst h1 hq).room (Nat.le_refl _) (by show 24 ≤ 30 * _; omega) (by show 400 ≤ 5600 * _; omega) (Nat.le_refl _)
  · exact (m_X5_statement_load h0 g hI hst h1 hq).room (Nat.le_refl _) (by show 24 ≤ 30 * _; omega) (by show 400 ≤ 5600 * _; omega) (Nat.le_refl _)
  · exact (m_X5_statement_wind h0 g hI hst h1 hq).room (Nat.le_refl _) (by show 24 ≤ 30 * _; omega) (by show 400 ≤ 5600 * _; omega) (Nat.le_refl _)
theorem hdk_0 {g : xG} {sc : Nat} {Z : Nat × Nat × Nat} {tx : List Nat} {fr to op : Nat} {tk : List Tk} (hq : PSt g sc Z tx fr to op true tk) : hdk tk = 0 ↔ tk = [] := by
  obtain ⟨at0, bd, pl, nb, sg, wd, -, -, -, -, -, ⟨rfl, -⟩ | ⟨t, ts, rfl, h, -⟩⟩ := hq.wh
  · exact ⟨fun _ => rfl, fun _ => rfl⟩
  · refine ⟨fun q => ?_, fun q => by cases q⟩
    have q1 : t.1 = 0 := q
    omega

set_option maxHeartbeats 4000000 in
set_option maxRecDepth 100000 in
theorem m_X5_isMore {l : Launch} {s0 : State} {D : va_G} (h0 : x0 l s0 D) (g : xG) {sc : Nat} {Z : Nat × Nat × Nat} {tx : List Nat} {A V B : Nat → Nat} {d0 N fr to : Nat} {τ : tS} {F : Nat → Option (aEnv → Int64)} (hI : TI s0 g Z tx A V B d0 N τ F) (hst : tst τ < 80) {tk : List Tk} {sn : Bool} (hq : PSt g sc Z tx fr to 0 sn tk) : xMet l s0 D yX5_isMore cX5_isMore 1 (some .boolean) (xr 7 2 20 230) [.ref sc] g (fun r g1 => r = some (.int (b01 (decide (¬ tk = [])))) ∧ PX g g1 ∧ PSt g1 sc Z tx fr to 0 true tk) := by
  refine xMet.of h0 (by decide +kernel) rfl ?_
  intro zp ze zs zm za zb zf zc hC hr hnm
  obtain ⟨hE, hS, hz, hF, hN, fo, ca, ka, pa, hT, hfm⟩ := hI
  have hs0 := hq
  obtain ⟨at0, bd0, pl0, nb0, wh0, sn0, sg0, wd0, hc0⟩ := hs0.sc
  have hTq := hT
  obtain ⟨la, lk, hU, -⟩ := hTq
  refine x_aloadr_n hC dX5_isMore_0 (q := 1) rfl rfl ?_
  refine x_get hC xf_X5_18_4 dX5_isMore_1 (q := 4) rfl (n := (60, 0)) hc0 rfl ?_
  refine x_get hC xf_X5_291_2 dX5_isMore_4 (q := 7) rfl (n := (70, 0)) hU rfl ?_
  refine x_bipush hC dX5_isMore_7 (q := 9) rfl (v := (80)) (by decide) ?_
  refine x_icmp_ge hC dX5_isMore_9 (q := 12) rfl (tgt := 25) rfl (fun h9 => ?_) (fun h9 => ?_)
  · exact absurd (show nI 80 ≤ nI (tst τ) from h9) (nI_ge (by omega) (by decide))
  refine x_aloadr_n hC dX5_isMore_12 (q := 13) rfl rfl ?_
  refine x_callV hC xv_X5_86 dX5_isMore_13 (q := 16) rfl rfl (m_X5_see h0 g hE hs0 (cz := 2) (sz := 20) (sR_f (by decide) (by decide) _)) (nn := (60, 0)) hc0 rfl rfl (Nat.le_of_ble_eq_true rfl) ⟨(by (try dsimp only); omega), (by (try dsimp only); omega)⟩ ⟨(by (try dsimp only); omega), (by (try dsimp only); omega)⟩ (fun v g1 hp => ?_)
  obtain ⟨rfl, hx1, hs1⟩ := hp
  refine x_if_eq hC dX5_isMore_16 (q := 19) rfl (tgt := 23) rfl (fun h16 => ?_) (fun h16 => ?_)
  · have hd : tk = [] := (hdk_0 hs1).mp ((nI_eq (by have := hdk_lt hs1; omega) (by decide)).mp (show nI (hdk tk) = nI 0 from h16))
    refine x_iconst hC dX5_isMore_23 (q := 24) rfl (v := (0)) (by decide) ?_
    exact x_zret hC hr rfl dX5_isMore_24 (by (try dsimp only); omega) (by (try dsimp only); omega) (by first | exact ⟨by rw [decide_eq_false (fun q => q hd)]; rfl, hx1, hs1⟩ | exact ⟨by rw [decide_eq_true hd]; rfl, hx1, hs1⟩)
  have hd : ¬ tk = [] := fun q => h16 (show nI (hdk tk) = nI 0 by rw [(hdk_0 hs1).mpr q])
  refine x_iconst hC dX5_isMore_19 (q := 20) rfl (v := (1)) (by decide) ?_
  refine x_goto hC dX5_isMore_20 (tgt := 24) rfl ?_
  exact x_zret hC hr rfl dX5_isMore_24 (by (try dsimp only); omega) (by (try dsimp only); omega) (by first | exact ⟨by rw [decide_eq_false (fun q => q hd)]; rfl, hx1, hs1⟩ | exact ⟨by rw [decide_eq_true hd]; rfl, hx1, hs1⟩)

theorem TI.px {s0 : State} {g g1 : xG} {Z : Nat × Nat × Nat} {tx : List Nat} {A V B : Nat → Nat} {d0 N : Nat} {τ : tS} {F : Nat → Option (aEnv → Int64)} (h : TI s0 g Z tx A V B d0 N τ F) (hx : PX g g1) : TI s0 g1 Z tx A V B d0 N τ F := by
  obtain ⟨hE, hS, hz, hF, hN, fo, ca, ka, pa, hT, hfm⟩ := h
  exact ⟨hE.px hx, hS, hz.pf (PF.px (N := 0) hx), hF.px hx, hN.ext (TF.px hx), fo, ca, ka, pa, hT.ext (TF.px hx), fun j hj => (hfm j hj).ext (Nat.le_refl _) (fun i _ => hx _ (n_fst rfl) (n_fst rfl) (n_fst rfl))⟩
abbrev tAl : Type := xG × List Tk × sX × Nat × Nat × Nat × Nat

set_option maxHeartbeats 4000000 in
set_option maxRecDepth 100000 in
theorem m_X5_town {l : Launch} {s0 : State} {D : va_G} (h0 : x0 l s0 D) (g : xG) {sc : Nat} {Z : Nat × Nat × Nat} {tx : List Nat} {A V B : Nat → Nat} {d0 N fr to : Nat} {X X1 : sX} {n : Nat} {tk : List Tk} (hI : TI s0 g Z tx A V B d0 N X.1 X.2) (hq : PSt g sc Z tx fr to 0 false tk) (hrun : sRun n X tk X1) (hst : tst X.1 + n < 80) : xMet l s0 D yX5_town cX5_town 1 (some (.object "KilnBench$Town")) ((xr 61 (40 * tk.length + 2) (6000 * tk.length + 20) 2030)) [.ref sc] g (fun r g1 => r = some (.ref Z.2.1) ∧ ∃ N1, TI s0 g1 Z tx A V B d0 N1 X1.1 X1.2 ∧ FX rdP g g1) := by
  refine xMet.of h0 (by decide +kernel) rfl ?_
  intro zp ze zs zm za zb zf zc hC hr hnm
  refine x_widen (k0 := 40 * (tk.length - tk.length)) (n0 := 6000 * (tk.length - tk.length)) (Nat.zero_le _) (Nat.zero_le _) ?_
  refine x_loop (S := (fun x : tAl => (40 * (tk.length - x.2.1.length), 6000 * (tk.length - x.2.1.length), x.1, ([some (.ref sc)] : xL), ([] : List Value)))) (Inv := (fun x => sRun x.2.2.2.1 x.2.2.1 x.2.1 X1 ∧ TI s0 x.1 Z tx A V B d0 x.2.2.2.2.1 x.2.2.1.1 x.2.2.1.2 ∧ PSt x.1 sc Z tx x.2.2.2.2.2.1 x.2.2.2.2.2.2 0 false x.2.1 ∧ tst x.2.2.1.1 + x.2.2.2.1 < 80 ∧ FX rdP g x.1 ∧ x.2.1.length ≤ tk.length)) (μ := fun x => x.2.2.2.1) ?_ (g, tk, X, n, N, fr, to) ⟨hrun, hI, hq, hst, FX.r0, Nat.le_refl _⟩
  intro x hi ih
  obtain ⟨G, tkc, Xc, k, Nc, frc, toc⟩ := x
  obtain ⟨w1, w2, w3, w4, w5, w6⟩ := hi
  dsimp only at w1 w2 w3 w4 w5 w6 ih ⊢
  have hs1 := w3
  obtain ⟨at1, bd1, pl1, nb1, wh1, sn1, sg1, wd1, hc1⟩ := hs1.sc
  refine x_aloadr_n hC dX5_town_0 (q := 1) rfl rfl ?_
  refine x_callV hC xv_X5_338 dX5_town_1 (q := 4) rfl rfl (m_X5_isMore h0 _ w2 (by omega) w3) (nn := (60, 0)) hc1 rfl rfl (Nat.le_of_ble_eq_true rfl) ⟨(by (try dsimp only); omega), (by (try dsimp only); omega)⟩ ⟨(by (try dsimp only); omega), (by (try dsimp only); omega)⟩ (fun v g2 hp => ?_)
  obtain ⟨rfl, hx2, hs2⟩ := hp
  have hI2 := w2.px hx2
  obtain ⟨at2, bd2, pl2, nb2, wh2, sn2, sg2, wd2, hc2⟩ := hs2.sc
  refine x_if_eq hC dX5_town_4 (q := 7) rfl (tgt := 14) rfl (fun h4 => ?_) (fun h4 => ?_)
  · have hd : tkc = [] := by
      by_cases q : tkc = []
      · exact q
      · rw [decide_eq_true q] at h4; exact absurd h4 (by decide)
    have hk : k = 0 := by
      cases k with
      | zero => rfl
      | succ k =>
        obtain ⟨X2, ts, h1, -⟩ := w1
        have := sStep_len h1
        rw [hd] at this
        exact absurd this (by simp)
    subst hk
    obtain ⟨-, rfl⟩ := w1
    have hIe := hI2
    obtain ⟨hEe, hSe, hze, hFe, hNe, foe, cae, kae, pae, hTe, hfe⟩ := hIe
    obtain ⟨lae, lke, hUe, -⟩ := hTe
    refine x_aloadr_n hC dX5_town_14 (q := 15) rfl rfl ?_
    refine x_get hC xf_X5_18_4 dX5_town_15 (q := 18) rfl (n := (60, 0)) hc2 rfl ?_
    exact x_aret hC hr (Or.inl ⟨_, rfl⟩) (Or.inr ⟨_, rfl⟩) dX5_town_18 (by (try dsimp only); omega) (by (try dsimp only); omega) ⟨rfl, Nc, hI2, w5.trans (FX.pxr hx2)⟩
  have hd : ¬ tkc = [] := fun q => by
    rw [decide_eq_false (fun r => r q)] at h4; exact absurd rfl h4
  obtain ⟨k, rfl⟩ : ∃ k', k = k' + 1 := by
    cases k with
    | zero => exact absurd w1.1 hd
    | succ k => exact ⟨k, rfl⟩
  obtain ⟨X2, ts, hst2, hr2⟩ := w1
  have hl3 := sStep_len hst2
  refine x_aloadr_n hC dX5_town_7 (q := 8) rfl rfl ?_
  refine x_callV hC xv_X5_341 dX5_town_8 (q := 11) rfl rfl (m_X5_statement h0 _ hI2 (by omega) hst2 hs2) (nn := (60, 0)) hc2 rfl rfl (Nat.le_of_ble_eq_true rfl) ⟨(by (try dsimp only); omega), (by (try dsimp only); omega)⟩ ⟨(by (try dsimp only); omega), (by (try dsimp only); omega)⟩ (fun v g3 hp => ?_)
  obtain ⟨N3, fr3, to3, rfl, hN3, hI3, hq3, hx3⟩ := hp
  refine x_goto hC dX5_town_11 (tgt := 0) rfl ?_
  refine x_widen (k0 := 40 * (tk.length - ts.length)) (n0 := 6000 * (tk.length - ts.length)) (by dsimp only; omega) (by dsimp only; omega) ?_
  exact ih (g3, ts, X2, k, N3, fr3, to3) ⟨hr2, hI3, hq3, by dsimp only; have := sStep_st hst2; omega, (w5.trans (FX.pxr hx2)).trans hx3, by dsimp only; omega⟩ (by dsimp only; omega)

set_option maxHeartbeats 4000000 in
set_option maxRecDepth 100000 in
theorem m_X3_init {l : Launch} {s0 : State} {D : va_G} (h0 : x0 l s0 D) (g : xG) {t d0 : Nat} {nt n1 n2 : xN} (hd0 : Nat.blt nt.1 1000 = true) (hd1 : Nat.blt n1.1 1000 = true) (hd2 : Nat.blt n2.1 1000 = true) (h01 : nt ≠ n1) (h02 : nt ≠ n2) (h12 : n1 ≠ n2) (ht : g nt = some (t, (xO 2 [.int 0, .int 0, .int 0, .int 0, .null, .null, .null, .null, .null, .null]))) (hf1 : g n1 = none) (hf2 : g n2 = none) (hz : xE0 s0 g d0) : xMet l s0 D yX3_init cX3_init 1 none (xr 4 2 6 100) [.ref t] g (fun r g1 => ∃ la lk, r = none ∧ (∀ n, n ≠ nt → n ≠ n1 → n ≠ n2 → g1 n = g n) ∧ g1 nt = some (t, (xO 2 [.int 0, .int 0, .int 0, .int 0, .null, .null, .null, .null, .ref la, .ref lk])) ∧ g1 n1 = some (la, xO 21 [.int 0, .ref d0, .int 0]) ∧ g1 n2 = some (lk, xO 21 [.int 0, .ref d0, .int 0])) := by
  refine xMet.of h0 (by decide +kernel) rfl ?_
  intro zp ze zs zm za zb zf zc hC hr hnm
  refine x_aloadr_n hC dX3_init_0 (q := 1) rfl rfl ?_
  refine x_objInit hC q131 q124 q125 dX3_init_1 (q := 4) rfl (by decide) (Nat.le_of_ble_eq_true rfl) (Nat.le_of_ble_eq_true rfl) ?_
  refine x_aloadr_n hC dX3_init_4 (q := 5) rfl rfl ?_
  refine x_new hC (fs := [.int 0, .null, .int 0]) n1 xc_21 q132 q133 q83 dX3_init_5 (q := 8) rfl hd1 hf1 (fun j hj => by match j, hj with | 0, _ => rfl | 1, _ => rfl | 2, _ => rfl | j + 3, h => exact absurd h (by omega)) (Nat.le_of_ble_eq_true rfl) (Nat.le_of_ble_eq_true rfl) (fun a_5 => ?_)
  refine x_dup hC dX3_init_8 (q := 9) rfl rfl ?_
  refine x_callI hC xv_X3_9 dX3_init_9 (q := 12) rfl rfl (m_J3_init h0 _ (n := n1) hd1 (xu_eq _ _ _) (hz.up hd1 _)) rfl (Nat.le_of_ble_eq_true rfl) ⟨(Nat.le_of_ble_eq_true rfl), (Nat.le_of_ble_eq_true rfl)⟩ ⟨(Nat.le_of_ble_eq_true rfl), (Nat.le_of_ble_eq_true rfl)⟩ (fun v g1 hp => ?_)
  rw [xu_xu] at hp
  obtain ⟨rfl, hg1⟩ := hp
  replace hg1 := hg1.symm
  subst hg1
  refine x_putF hC hnm (n := nt) xff_X3_10_2 xd_2 hd0 dX3_init_12 (q := 15) rfl (by rw [xu_ne h01]; exact ht) rfl rfl rfl ?_
  refine x_aloadr_n hC dX3_init_15 (q := 16) rfl rfl ?_
  refine x_new hC (fs := [.int 0, .null, .int 0]) n2 xc_21 q132 q133 q83 dX3_init_16 (q := 19) rfl hd2 (by rw [xu_ne h02.symm, xu_ne h12.symm]; exact hf2) (fun j hj => by match j, hj with | 0, _ => rfl | 1, _ => rfl | 2, _ => rfl | j + 3, h => exact absurd h (by omega)) (Nat.le_of_ble_eq_true rfl) (Nat.le_of_ble_eq_true rfl) (fun a_16 => ?_)
  refine x_dup hC dX3_init_19 (q := 20) rfl rfl ?_
  refine x_callI hC xv_X3_9 dX3_init_20 (q := 23) rfl rfl (m_J3_init h0 _ (n := n2) hd2 (xu_eq _ _ _) (((hz.up hd1 _).up hd0 _).up hd2 _)) rfl (Nat.le_of_ble_eq_true rfl) ⟨(Nat.le_of_ble_eq_true rfl), (Nat.le_of_ble_eq_true rfl)⟩ ⟨(Nat.le_of_ble_eq_true rfl), (Nat.le_of_ble_eq_true rfl)⟩ (fun v g1 hp => ?_)
  rw [xu_xu] at hp
  obtain ⟨rfl, hg1⟩ := hp
  replace hg1 := hg1.symm
  subst hg1
  refine x_putF hC hnm (n := nt) xff_X3_16_2 xd_2 hd0 dX3_init_23 (q := 26) rfl (by rw [xu_ne h02, xu_eq]) rfl rfl rfl ?_
  exact x_vret hC hr dX3_init_26 (Nat.le_of_ble_eq_true rfl) (Nat.le_of_ble_eq_true rfl) ⟨a_5, a_16, rfl, fun n q1 q2 q3 => by rw [xu_ne q1, xu_ne q3, xu_ne q1, xu_ne q2], xu_eq _ _ _, by rw [xu_ne h01.symm, xu_ne h12, xu_ne h01.symm, xu_eq], by rw [xu_ne h02.symm, xu_eq]⟩

def τ00 : tS := (0, 0, fun _ => 0, fun _ => 0, fun _ => 0, 0, 0, 0, 0)
/-- the scanner's names are free -/
def SFr (g : xG) : Prop := g (63, 0) = none ∧ (∀ n : xN, 70 ≤ n.1 → n.1 ≤ 81 → g n = none) ∧ ∀ i, g (200, i) = none

set_option maxHeartbeats 4000000 in
set_option maxRecDepth 100000 in
theorem m_X5_init {l : Launch} {s0 : State} {D : va_G} (h0 : x0 l s0 D) (g : xG) {sc kb d0 : Nat} {tx : List Nat} {tk : List Tk} {A V B : Nat → Nat} (hS : KS0 s0 A V B) (hKG : KG g A V B) (hz : xE0 s0 g d0) (hc : g (60, 0) = some (sc, xO 4 [.int 0, .null, .int 0, .int 0, .int 0, .int 0, .int 0, .int 0, .int 0, .int 0, .int 0, .int 0, .null, .null])) (hFr : SFr g) (hKB : ∃ (rest : List Value) (ta : Nat) (T : Nat → Int32), g (0, 0) = some (kb, xO 1 (.ref ta :: rest)) ∧ g (1, 0) = some (ta, xAi .char 1600 T) ∧ ∀ j, j < tx.length → T j = nI (tx.getD j 0)) (hsz : tx.length ≤ 1600) (hA : sA tx) (hlex : lexes tk false tx) : xMet l s0 D yX5_init cX5_init 3 none ((xr 6 4 40 150)) [.ref sc, .ref kb, .int (nI tx.length)] g (fun r g1 => ∃ ht, r = none ∧ PSt g1 sc (tx.length, ht, kb) tx 0 0 0 false tk ∧ TI s0 g1 (tx.length, ht, kb) tx A V B d0 0 τ00 (fun _ => none) ∧ FX rdP g g1) := by
  refine xMet.of h0 (by decide +kernel) rfl ?_
  intro zp ze zs zm za zb zf zc hC hr hnm
  refine x_aloadr_n hC dX5_init_0 (q := 1) rfl rfl ?_
  refine x_aloadr_n hC dX5_init_1 (q := 2) rfl rfl ?_
  refine x_putF hC hnm (n := (60, 0)) xff_X5_3_4 xd_4 rfl dX5_init_2 (q := 5) rfl hc rfl rfl rfl ?_
  refine x_aloadr_n hC dX5_init_5 (q := 6) rfl rfl ?_
  refine x_objInit hC q288 q124 q125 dX5_init_6 (q := 9) rfl (by decide) (Nat.le_of_ble_eq_true rfl) (Nat.le_of_ble_eq_true rfl) ?_
  refine x_aloadr_n hC dX5_init_9 (q := 10) rfl rfl ?_
  refine x_new hC (fs := [.int 0, .int 0, .int 0, .int 0, .null, .null, .null, .null, .null, .null]) (70, 0) xc_2 q289 q127 q80 dX5_init_10 (q := 13) rfl rfl (by rw [xu_ne (n_fst rfl)]; exact hFr.2.1 _ (Nat.le_of_ble_eq_true rfl) (Nat.le_of_ble_eq_true rfl)) (fun j hj => by match j, hj with | 0, _ => rfl | 1, _ => rfl | 2, _ => rfl | 3, _ => rfl | 4, _ => rfl | 5, _ => rfl | 6, _ => rfl | 7, _ => rfl | 8, _ => rfl | 9, _ => rfl | j + 10, h => exact absurd h (by omega)) (by (try dsimp only); omega) (by (try dsimp only); omega) (fun a_10 => ?_)
  refine x_dup hC dX5_init_13 (q := 14) rfl rfl ?_
  refine x_callIN hC xv_X5_17 dX5_init_14 (q := 17) rfl rfl (m_X3_init h0 _ (nt := (70, 0)) (n1 := (71, 0)) (n2 := (73, 0)) rfl rfl rfl (n_fst rfl) (n_fst rfl) (n_fst rfl) (xu_eq _ _ _) (by rw [xu_ne (n_fst rfl), xu_ne (n_fst rfl)]; exact hFr.2.1 _ (Nat.le_of_ble_eq_true rfl) (Nat.le_of_ble_eq_true rfl)) (by rw [xu_ne (n_fst rfl), xu_ne (n_fst rfl)]; exact hFr.2.1 _ (Nat.le_of_ble_eq_true rfl) (Nat.le_of_ble_eq_true rfl)) ((hz.up rfl _).up rfl _)) rfl (Nat.le_of_ble_eq_true rfl) ⟨(by (try dsimp only); omega), (by (try dsimp only); omega)⟩ ⟨(by (try dsimp only); omega), (by (try dsimp only); omega)⟩ (fun v gt hp => ?_)
  obtain ⟨la, lk, rfl, hgo, ht1, ht2, ht3⟩ := hp
  have hc1 := (hgo (60, 0) (n_fst rfl) (n_fst rfl) (n_fst rfl)).trans ((xu_ne (n_fst rfl)).trans (xu_eq _ _ _))
  refine x_putF hC hnm (n := (60, 0)) xff_X5_18_4 xd_4 rfl dX5_init_17 (q := 20) rfl hc1 rfl rfl rfl ?_
  refine x_aloadr_n hC dX5_init_20 (q := 21) rfl rfl ?_
  refine x_iconst hC dX5_init_21 (q := 22) rfl (v := (-1)) (by decide) ?_
  refine x_put hC (n := (60, 0)) xf_X5_22_4 xd_4 rfl dX5_init_22 (q := 25) rfl (xu_eq _ _ _) rfl rfl rfl ?_
  rw [xu_xu]
  refine x_aloadr_n hC dX5_init_25 (q := 26) rfl rfl ?_
  refine x_iload_n hC dX5_init_26 (q := 27) rfl rfl ?_
  refine x_putF hC hnm (n := (60, 0)) xff_X5_26_4 xd_4 rfl dX5_init_27 (q := 30) rfl (xu_eq _ _ _) rfl rfl rfl ?_
  rw [xu_xu]
  obtain ⟨ge, hge⟩ : ∃ ge, ge = xu gt (60, 0) (some (sc, scO (tx.length, a_10, kb) 0 0 0 (-1) 0 0 0 0 0 0 none)) := ⟨_, rfl⟩
  refine x_geq (g' := ge) (by rw [hge]; rfl) ?_
  have hE1 : ∀ n : xN, n ≠ (60, 0) → n ≠ (70, 0) → n ≠ (71, 0) → n ≠ (73, 0) → ge n = g n := fun n q1 q2 q3 q4 => by
    rw [hge, xu_ne q1, hgo n q2 q3 q4, xu_ne q2, xu_ne q1]
  have hFX : FX rdP g ge := fun n q => hE1 n (fun e => by rw [e] at q; cases q) (fun e => by rw [e] at q; cases q) (fun e => by rw [e] at q; cases q) (fun e => by rw [e] at q; cases q)
  have hTW : TW ge a_10 d0 τ00 (fun _ => none) (fun _ => 0) (fun _ => 0) (fun _ => 0) := ⟨la, lk, by rw [hge, xu_ne (n_fst rfl)]; exact ht1, ⟨d0, 0, by rw [hge, xu_ne (n_fst rfl)]; exact ht2, fun _ => ⟨rfl, (hE1 _ (n_fst rfl) (n_fst rfl) (n_fst rfl) (n_fst rfl)).trans (hFr.2.1 _ (Nat.le_of_ble_eq_true rfl) (Nat.le_of_ble_eq_true rfl))⟩, fun q => absurd q (by decide)⟩, ⟨d0, 0, by rw [hge, xu_ne (n_fst rfl)]; exact ht3, fun _ => ⟨rfl, (hE1 _ (n_fst rfl) (n_fst rfl) (n_fst rfl) (n_fst rfl)).trans (hFr.2.1 _ (Nat.le_of_ble_eq_true rfl) (Nat.le_of_ble_eq_true rfl))⟩, fun q => absurd q (by decide)⟩, fun c q => absurd q (Nat.not_lt_zero _), fun c q => absurd q (Nat.not_lt_zero _), by decide, by decide⟩
  have hfree : ∀ k i, Nat.ble 74 k = true → Nat.ble k 81 = true → ge (k, i) = none := fun k i q1 q2 => by
    have q1 := Nat.le_of_ble_eq_true q1
    have q2 := Nat.le_of_ble_eq_true q2
    exact (hE1 (k, i) (fun e => by injection e with e1 _; omega) (fun e => by injection e with e1 _; omega) (fun e => by injection e with e1 _; omega) (fun e => by injection e with e1 _; omega)).trans (hFr.2.1 _ (by dsimp only; omega) (by dsimp only; omega))
  have hIe : TI s0 ge (tx.length, a_10, kb) tx A V B d0 0 τ00 (fun _ => none) := by
    obtain ⟨rest, ta, T, hk1, hk2, hk3⟩ := hKB
    refine ⟨⟨⟨rest, ta, T, (hE1 _ (n_fst rfl) (n_fst rfl) (n_fst rfl) (n_fst rfl)).trans hk1, (hE1 _ (n_fst rfl) (n_fst rfl) (n_fst rfl) (n_fst rfl)).trans hk2, hk3⟩, rfl, hsz, hA, hKG.ext fun n hn => hE1 n (fun q => by rw [q] at hn; exact absurd hn (by decide)) (fun q => by rw [q] at hn; exact absurd hn (by decide)) (fun q => by rw [q] at hn; exact absurd hn (by decide)) (fun q => by rw [q] at hn; exact absurd hn (by decide))⟩, hS, ⟨hz.1, hz.2.choose, (hE1 _ (n_fst rfl) (n_fst rfl) (n_fst rfl) (n_fst rfl)).trans hz.2.choose_spec⟩, ⟨fun i _ => (hE1 _ (n_fst rfl) (n_fst rfl) (n_fst rfl) (n_fst rfl)).trans (hFr.2.2 i), (hE1 _ (n_fst rfl) (n_fst rfl) (n_fst rfl) (n_fst rfl)).trans hFr.1⟩, ⟨fun c _ => ⟨hfree 75 c rfl rfl, hfree 76 c rfl rfl, hfree 77 c rfl rfl⟩, fun c _ => ⟨hfree 78 c rfl rfl, hfree 79 c rfl rfl, hfree 80 c rfl rfl, hfree 81 c rfl rfl⟩⟩, _, _, _, _, hTW, fun j _ => Or.inl ⟨rfl, rfl⟩⟩
  have hQe : PSt ge sc (tx.length, a_10, kb) tx 0 0 0 false tk := ⟨0, -1, 0, 0, 0, 0, none, by rw [hge]; exact xu_eq _ _ _, Nat.zero_le _, by decide, by decide, Nat.zero_le _, Or.inl ⟨rfl, by
    have e : decide ((-1 : Int) = ((0 : Nat) : Int)) = false := by decide
    rw [e]
    exact hlex⟩⟩
  exact x_vret hC hr dX5_init_30 (by (try dsimp only); omega) (by (try dsimp only); omega) ⟨a_10, rfl, hQe, hIe, hFX⟩
