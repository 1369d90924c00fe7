/-! tests are parsed -/

set_option maxHeartbeats 4000000 in
set_option maxRecDepth 100000 in
theorem m_X5_against_ {l : Launch} {s0 : State} {D : va_G} (h0 : x0 l s0 D) {lv fr to F Lo : Nat} {S : pP} (hPS : cP l s0 D yX5_sum_2 cX5_sum_2 4 "KilnBench$Sum" false true F Lo 6 lv fr to S) (hLS : pLen S) (g : xG) {sc : Nat} {Z : Nat × Nat × Nat} {tx : List Nat} {A V B : Nat → Nat} {d0 op N : Nat} (hE : PE g Z tx A V B) (hS : KS0 s0 A V B) (hz : xE0 s0 g d0) (hF : FR N g) {sn : Bool} {tk : List Tk} {r1 r2 : pR} {cc : Nat} {ts : List Tk} (hq : PSt g sc Z tx fr to op sn tk) (hop : op + lv ≤ 7) (q1 : S tk = some r1) (q2 : r1.2.2 = (3, [cc]) :: ts) (hc8 : cc < 128) (hA1 : isA ((3, [cc]) :: ts) = true) (q3 : S ts = some r2) (hF9 : 12 ≤ F) (hLo : 500 ≤ Lo) : xMet l s0 D yX5_against cX5_against 3 (some (.object "KilnBench$Test")) ((fRoom (F + 1) 6 (Lo + 30) tk r2.2.2)) [.ref sc] g (fPost g sc Z tx fr to op N true true (fun e => aCmp (nI cc) (r1.1 e) (r2.1 e), max r1.2.1 r2.2.1 + 1, r2.2.2)) := by
  refine xMet.of h0 (by decide +kernel) rfl ?_
  intro zp ze zs zm za zb zf zc hC hr hnm
  obtain ⟨fs0, hc0⟩ := hq.cell
  have hE0 := hE
  have hz0 := hz
  have hs0 := hq
  have hF0 := hF
  have l1 := hLS _ _ q1
  have l2 := hLS _ _ q3
  have e2 : r1.2.2.length = ts.length + 1 := by rw [q2]; rfl
  refine x_aloadr_n hC dX5_against_0 (q := 1) rfl rfl ?_
  refine x_callV hC xv_X5_180 dX5_against_1 (q := 4) rfl rfl (hPS _ sc Z tx A V B d0 op N _ tk _ hE0 hS hz0 hs0 hF0 hop q1) (nn := (60, 0)) hc0 rfl rfl (Nat.le_of_ble_eq_true rfl) ⟨(by (try dsimp only); omega), (by (try dsimp only); omega)⟩ ⟨(by (try dsimp only); omega), (by (try dsimp only); omega)⟩ (fun v g1 hp => ?_)
  obtain ⟨a1, N1, rfl, hN1, hpf1, hF1, hs1, hR1⟩ := hp
  have hE1 := hE0.pf hpf1
  have hz1 := hz0.pf hpf1
  obtain ⟨fs1, hc1⟩ := hs1.cell
  rw [q2] at hs1
  refine x_astorer_n hC dX5_against_4 (q := 5) rfl rfl ?_
  refine x_aloadr_n hC dX5_against_5 (q := 6) rfl rfl ?_
  refine x_bipush hC dX5_against_6 (q := 8) rfl (v := (60)) (by decide) ?_
  refine x_callV hC xv_X5_93 dX5_against_8 (q := 11) rfl rfl (m_X5_isSign h0 _ hE1 hs1 (c := 60) (by decide) (cz := 0) (sz := 0) sR_t) (nn := (60, 0)) hc1 rfl rfl (Nat.le_of_ble_eq_true rfl) ⟨(by (try dsimp only); omega), (by (try dsimp only); omega)⟩ ⟨(by (try dsimp only); omega), (by (try dsimp only); omega)⟩ (fun v gt2 hp => ?_)
  obtain ⟨rfl, hx2, hs2⟩ := hp
  have hE2 := hE1.px hx2
  have hz2 := hz1.pf (PF.px (N := 0) hx2)
  have hF2 := hF1.px hx2
  obtain ⟨fs2, hc2⟩ := hs2.cell
  refine x_if_ne hC dX5_against_11 (q := 14) rfl (tgt := 37) rfl (fun h11 => ?_) (fun h11 => ?_)
  · obtain ⟨gty, hgty⟩ : ∃ gty, gty = gt2 := ⟨_, rfl⟩
    subst hgty
    have hpy := (PF.px (N := N1) hx2)
    have hsy := hs2
    have hEy := hE2
    have hzy := hz2
    have hFy := hF2
    have hRy : aR (fW N N1 gty) r1.2.1 false a1 r1.1 := aR_into hR1 (Nat.le_refl _) (Nat.le_refl _) (Nat.le_refl _) (fun i e1 e2 => by rw [hx2 _ (n_fst rfl) (n_fst rfl) (n_fst rfl)])
    obtain ⟨at0, bd, pl, nb, sg, wd, hcS, hat, hb1, hb2, hpl, htk⟩ := hsy.wh
    obtain ⟨q5, -⟩ | ⟨t5, ts5, q5, h1, h2, h3⟩ := htk
    · cases q5
    injection q5 with q6 q7
    subst q7
    rw [← q6] at h3
    have hsg1 : cc = sg := by
      have := (h3.2.2 rfl).1
      injection this
    rw [← hsg1] at hcS
    refine x_aloadr_n hC dX5_against_37 (q := 38) rfl rfl ?_
    refine x_get hC xf_X5_53_4 dX5_against_38 (q := 41) rfl (n := (60, 0)) hcS rfl ?_
    refine x_istore_n hC dX5_against_41 (q := 42) rfl rfl ?_
    refine x_aloadr_n hC dX5_against_42 (q := 43) rfl rfl ?_
    refine x_iconst hC dX5_against_43 (q := 44) rfl (v := (0)) (by decide) ?_
    refine x_put hC (n := (60, 0)) xf_X5_29_4 xd_4 rfl dX5_against_44 (q := 47) rfl hcS rfl rfl rfl ?_
    have hs9 := PSt.nx (g := gty) (sc := sc) (Z := Z) (tx := tx) (fr := fr) (to := to) (op := op) (t := (3, [cc])) (nb := nb) (wh := 3) (sg := cc) (wd := wd) (op2 := 0) (fr2 := 0) (to2 := 0) hat hb1 hb2 hpl h2
    refine x_new hC (fs := [.int 0, .null, .null]) (200, N1) xc_10 q890 q891 q107 dX5_against_47 (q := 50) rfl rfl (by rw [xu_ne (n_fst rfl)]; exact hFy.1 N1 (Nat.le_refl _)) (fun j hj => by match j, hj with | 0, _ => rfl | 1, _ => rfl | 2, _ => rfl | j + 3, h => exact absurd h (by omega)) (by (try dsimp only); omega) (by (try dsimp only); omega) (fun a_47 => ?_)
    refine x_dup hC dX5_against_50 (q := 51) rfl rfl ?_
    refine x_iload_n hC dX5_against_51 (q := 52) rfl rfl ?_
    refine x_aloadr_n hC dX5_against_52 (q := 53) rfl rfl ?_
    have hs10 := hs9.u (i := N1)
    have hF10 := (((hFy.u60 (some (sc, scO Z fr to at0 bd pl nb 3 op 0 cc wd))).le (Nat.le_succ N1)).u (Nat.lt_succ_self N1) (some (a_47, xO 10 [.int 0, .null, .null])))
    obtain ⟨fs10, hc10⟩ := (hs10 (some (a_47, xO 10 [.int 0, .null, .null]))).cell
    refine x_aloadr_n hC dX5_against_53 (q := 54) rfl rfl ?_
    refine x_callV hC xv_X5_180 dX5_against_54 (q := 57) rfl rfl (hPS _ sc Z tx A V B d0 op (N1 + 1) _ ts r2 (hEy.pf ((PF.r0.u60 _).u (Nat.zero_le N1) _)) hS (hzy.pf ((PF.r0.u60 _).u (Nat.zero_le N1) _)) (hs10 _) hF10 hop q3) (nn := (60, 0)) hc10 rfl rfl (Nat.le_of_ble_eq_true rfl) ⟨(by (try dsimp only); omega), (by (try dsimp only); omega)⟩ ⟨(by (try dsimp only); omega), (by (try dsimp only); omega)⟩ (fun v g1 hp => ?_)
    obtain ⟨a5, N5, rfl, hN5, hpf5, hF5, hs5, hR5⟩ := hp
    refine x_callI hC xv_X5_186 dX5_against_57 (q := 60) rfl rfl (m_X13_init h0 _ (n := (200, N1)) rfl hc8 (by rw [hpf5.at (Nat.lt_succ_self N1)]; exact xu_eq _ _ _)) rfl (Nat.le_of_ble_eq_true rfl) ⟨(by (try dsimp only); omega), (by (try dsimp only); omega)⟩ ⟨(by (try dsimp only); omega), (by (try dsimp only); omega)⟩ (fun v g1 hp => ?_)
    obtain ⟨rfl, hg1⟩ := hp
    replace hg1 := hg1.symm
    subst hg1
    exact x_aret hC hr (Or.inl ⟨_, rfl⟩) (Or.inr ⟨_, rfl⟩) dX5_against_60 (by (try dsimp only); omega) (by (try dsimp only); omega) ⟨_, N5, rfl, by omega, (((((hpf1.trans hpy hN1).u60 _).u (i := N1) hN1 _).trans hpf5 (by omega)).u (i := N1) hN1 _), hF5.u (by omega) _, hs5.u _, Or.inl ⟨(200, N1), nI cc, a1, a5, r1.1, r2.1, n40, (fW_at hN1 (by omega)).trans (xu_eq _ _ _), aR_into hRy (Nat.le_refl _) (by omega) (by omega) (fun i e1 e2 => by rw [xu_ne (n_snd (by omega)), hpf5.at (by omega), xu_ne (n_snd (by omega)), xu_ne (n_fst rfl)]), aR_into hR5 (by omega) (Nat.le_refl _) (by omega) (fun i e1 e2 => by rw [xu_ne (n_snd (by omega))]), rfl⟩⟩
  refine x_aloadr_n hC dX5_against_14 (q := 15) rfl rfl ?_
  refine x_bipush hC dX5_against_15 (q := 17) rfl (v := (62)) (by decide) ?_
  refine x_callV hC xv_X5_93 dX5_against_17 (q := 20) rfl rfl (m_X5_isSign h0 _ hE2 hs2 (c := 62) (by decide) (cz := 0) (sz := 0) sR_t) (nn := (60, 0)) hc2 rfl rfl (Nat.le_of_ble_eq_true rfl) ⟨(by (try dsimp only); omega), (by (try dsimp only); omega)⟩ ⟨(by (try dsimp only); omega), (by (try dsimp only); omega)⟩ (fun v gt3 hp => ?_)
  obtain ⟨rfl, hx3, hs3⟩ := hp
  have hE3 := hE2.px hx3
  have hz3 := hz2.pf (PF.px (N := 0) hx3)
  have hF3 := hF2.px hx3
  obtain ⟨fs3, hc3⟩ := hs3.cell
  refine x_if_ne hC dX5_against_20 (q := 23) rfl (tgt := 37) rfl (fun h20 => ?_) (fun h20 => ?_)
  · obtain ⟨gty, hgty⟩ : ∃ gty, gty = gt3 := ⟨_, rfl⟩
    subst hgty
    have hpy := ((PF.px hx2).trans (PF.px hx3) (Nat.le_refl N1))
    have hsy := hs3
    have hEy := hE3
    have hzy := hz3
    have hFy := hF3
    have hRy : aR (fW N N1 gty) r1.2.1 false a1 r1.1 := aR_into hR1 (Nat.le_refl _) (Nat.le_refl _) (Nat.le_refl _) (fun i e1 e2 => by rw [hx3 _ (n_fst rfl) (n_fst rfl) (n_fst rfl), hx2 _ (n_fst rfl) (n_fst rfl) (n_fst rfl)])
    obtain ⟨at0, bd, pl, nb, sg, wd, hcS, hat, hb1, hb2, hpl, htk⟩ := hsy.wh
    obtain ⟨q5, -⟩ | ⟨t5, ts5, q5, h1, h2, h3⟩ := htk
    · cases q5
    injection q5 with q6 q7
    subst q7
    rw [← q6] at h3
    have hsg1 : cc = sg := by
      have := (h3.2.2 rfl).1
      injection this
    rw [← hsg1] at hcS
    refine x_aloadr_n hC dX5_against_37 (q := 38) rfl rfl ?_
    refine x_get hC xf_X5_53_4 dX5_against_38 (q := 41) rfl (n := (60, 0)) hcS rfl ?_
    refine x_istore_n hC dX5_against_41 (q := 42) rfl rfl ?_
    refine x_aloadr_n hC dX5_against_42 (q := 43) rfl rfl ?_
    refine x_iconst hC dX5_against_43 (q := 44) rfl (v := (0)) (by decide) ?_
    refine x_put hC (n := (60, 0)) xf_X5_29_4 xd_4 rfl dX5_against_44 (q := 47) rfl hcS rfl rfl rfl ?_
    have hs9 := PSt.nx (g := gty) (sc := sc) (Z := Z) (tx := tx) (fr := fr) (to := to) (op := op) (t := (3, [cc])) (nb := nb) (wh := 3) (sg := cc) (wd := wd) (op2 := 0) (fr2 := 0) (to2 := 0) hat hb1 hb2 hpl h2
    refine x_new hC (fs := [.int 0, .null, .null]) (200, N1) xc_10 q890 q891 q107 dX5_against_47 (q := 50) rfl rfl (by rw [xu_ne (n_fst rfl)]; exact hFy.1 N1 (Nat.le_refl _)) (fun j hj => by match j, hj with | 0, _ => rfl | 1, _ => rfl | 2, _ => rfl | j + 3, h => exact absurd h (by omega)) (by (try dsimp only); omega) (by (try dsimp only); omega) (fun a_47 => ?_)
    refine x_dup hC dX5_against_50 (q := 51) rfl rfl ?_
    refine x_iload_n hC dX5_against_51 (q := 52) rfl rfl ?_
    refine x_aloadr_n hC dX5_against_52 (q := 53) rfl rfl ?_
    have hs10 := hs9.u (i := N1)
    have hF10 := (((hFy.u60 (some (sc, scO Z fr to at0 bd pl nb 3 op 0 cc wd))).le (Nat.le_succ N1)).u (Nat.lt_succ_self N1) (some (a_47, xO 10 [.int 0, .null, .null])))
    obtain ⟨fs10, hc10⟩ := (hs10 (some (a_47, xO 10 [.int 0, .null, .null]))).cell
    refine x_aloadr_n hC dX5_against_53 (q := 54) rfl rfl ?_
    refine x_callV hC xv_X5_180 dX5_against_54 (q := 57) rfl rfl (hPS _ sc Z tx A V B d0 op (N1 + 1) _ ts r2 (hEy.pf ((PF.r0.u60 _).u (Nat.zero_le N1) _)) hS (hzy.pf ((PF.r0.u60 _).u (Nat.zero_le N1) _)) (hs10 _) hF10 hop q3) (nn := (60, 0)) hc10 rfl rfl (Nat.le_of_ble_eq_true rfl) ⟨(by (try dsimp only); omega), (by (try dsimp only); omega)⟩ ⟨(by (try dsimp only); omega), (by (try dsimp only); omega)⟩ (fun v g1 hp => ?_)
    obtain ⟨a5, N5, rfl, hN5, hpf5, hF5, hs5, hR5⟩ := hp
    refine x_callI hC xv_X5_186 dX5_against_57 (q := 60) rfl rfl (m_X13_init h0 _ (n := (200, N1)) rfl hc8 (by rw [hpf5.at (Nat.lt_succ_self N1)]; exact xu_eq _ _ _)) rfl (Nat.le_of_ble_eq_true rfl) ⟨(by (try dsimp only); omega), (by (try dsimp only); omega)⟩ ⟨(by (try dsimp only); omega), (by (try dsimp only); omega)⟩ (fun v g1 hp => ?_)
    obtain ⟨rfl, hg1⟩ := hp
    replace hg1 := hg1.symm
    subst hg1
    exact x_aret hC hr (Or.inl ⟨_, rfl⟩) (Or.inr ⟨_, rfl⟩) dX5_against_60 (by (try dsimp only); omega) (by (try dsimp only); omega) ⟨_, N5, rfl, by omega, (((((hpf1.trans hpy hN1).u60 _).u (i := N1) hN1 _).trans hpf5 (by omega)).u (i := N1) hN1 _), hF5.u (by omega) _, hs5.u _, Or.inl ⟨(200, N1), nI cc, a1, a5, r1.1, r2.1, n40, (fW_at hN1 (by omega)).trans (xu_eq _ _ _), aR_into hRy (Nat.le_refl _) (by omega) (by omega) (fun i e1 e2 => by rw [xu_ne (n_snd (by omega)), hpf5.at (by omega), xu_ne (n_snd (by omega)), xu_ne (n_fst rfl)]), aR_into hR5 (by omega) (Nat.le_refl _) (by omega) (fun i e1 e2 => by rw [xu_ne (n_snd (by omega))]), rfl⟩⟩
  refine x_aloadr_n hC dX5_against_23 (q := 24) rfl rfl ?_
  refine x_bipush hC dX5_against_24 (q := 26) rfl (v := (61)) (by decide) ?_
  refine x_callV hC xv_X5_93 dX5_against_26 (q := 29) rfl rfl (m_X5_isSign h0 _ hE3 hs3 (c := 61) (by decide) (cz := 0) (sz := 0) sR_t) (nn := (60, 0)) hc3 rfl rfl (Nat.le_of_ble_eq_true rfl) ⟨(by (try dsimp only); omega), (by (try dsimp only); omega)⟩ ⟨(by (try dsimp only); omega), (by (try dsimp only); omega)⟩ (fun v gt4 hp => ?_)
  obtain ⟨rfl, hx4, hs4⟩ := hp
  have hE4 := hE3.px hx4
  have hz4 := hz3.pf (PF.px (N := 0) hx4)
  have hF4 := hF3.px hx4
  obtain ⟨fs4, hc4⟩ := hs4.cell
  refine x_if_ne hC dX5_against_29 (q := 32) rfl (tgt := 37) rfl (fun h29 => ?_) (fun h29 => ?_)
  · obtain ⟨gty, hgty⟩ : ∃ gty, gty = gt4 := ⟨_, rfl⟩
    subst hgty
    have hpy := (((PF.px hx2).trans (PF.px hx3) (Nat.le_refl N1)).trans (PF.px hx4) (Nat.le_refl N1))
    have hsy := hs4
    have hEy := hE4
    have hzy := hz4
    have hFy := hF4
    have hRy : aR (fW N N1 gty) r1.2.1 false a1 r1.1 := aR_into hR1 (Nat.le_refl _) (Nat.le_refl _) (Nat.le_refl _) (fun i e1 e2 => by rw [hx4 _ (n_fst rfl) (n_fst rfl) (n_fst rfl), hx3 _ (n_fst rfl) (n_fst rfl) (n_fst rfl), hx2 _ (n_fst rfl) (n_fst rfl) (n_fst rfl)])
    obtain ⟨at0, bd, pl, nb, sg, wd, hcS, hat, hb1, hb2, hpl, htk⟩ := hsy.wh
    obtain ⟨q5, -⟩ | ⟨t5, ts5, q5, h1, h2, h3⟩ := htk
    · cases q5
    injection q5 with q6 q7
    subst q7
    rw [← q6] at h3
    have hsg1 : cc = sg := by
      have := (h3.2.2 rfl).1
      injection this
    rw [← hsg1] at hcS
    refine x_aloadr_n hC dX5_against_37 (q := 38) rfl rfl ?_
    refine x_get hC xf_X5_53_4 dX5_against_38 (q := 41) rfl (n := (60, 0)) hcS rfl ?_
    refine x_istore_n hC dX5_against_41 (q := 42) rfl rfl ?_
    refine x_aloadr_n hC dX5_against_42 (q := 43) rfl rfl ?_
    refine x_iconst hC dX5_against_43 (q := 44) rfl (v := (0)) (by decide) ?_
    refine x_put hC (n := (60, 0)) xf_X5_29_4 xd_4 rfl dX5_against_44 (q := 47) rfl hcS rfl rfl rfl ?_
    have hs9 := PSt.nx (g := gty) (sc := sc) (Z := Z) (tx := tx) (fr := fr) (to := to) (op := op) (t := (3, [cc])) (nb := nb) (wh := 3) (sg := cc) (wd := wd) (op2 := 0) (fr2 := 0) (to2 := 0) hat hb1 hb2 hpl h2
    refine x_new hC (fs := [.int 0, .null, .null]) (200, N1) xc_10 q890 q891 q107 dX5_against_47 (q := 50) rfl rfl (by rw [xu_ne (n_fst rfl)]; exact hFy.1 N1 (Nat.le_refl _)) (fun j hj => by match j, hj with | 0, _ => rfl | 1, _ => rfl | 2, _ => rfl | j + 3, h => exact absurd h (by omega)) (by (try dsimp only); omega) (by (try dsimp only); omega) (fun a_47 => ?_)
    refine x_dup hC dX5_against_50 (q := 51) rfl rfl ?_
    refine x_iload_n hC dX5_against_51 (q := 52) rfl rfl ?_
    refine x_aloadr_n hC dX5_against_52 (q := 53) rfl rfl ?_
    have hs10 := hs9.u (i := N1)
    have hF10 := (((hFy.u60 (some (sc, scO Z fr to at0 bd pl nb 3 op 0 cc wd))).le (Nat.le_succ N1)).u (Nat.lt_succ_self N1) (some (a_47, xO 10 [.int 0, .null, .null])))
    obtain ⟨fs10, hc10⟩ := (hs10 (some (a_47, xO 10 [.int 0, .null, .null]))).cell
    refine x_aloadr_n hC dX5_against_53 (q := 54) rfl rfl ?_
    refine x_callV hC xv_X5_180 dX5_against_54 (q := 57) rfl rfl (hPS _ sc Z tx A V B d0 op (N1 + 1) _ ts r2 (hEy.pf ((PF.r0.u60 _).u (Nat.zero_le N1) _)) hS (hzy.pf ((PF.r0.u60 _).u (Nat.zero_le N1) _)) (hs10 _) hF10 hop q3) (nn := (60, 0)) hc10 rfl rfl (Nat.le_of_ble_eq_true rfl) ⟨(by (try dsimp only); omega), (by (try dsimp only); omega)⟩ ⟨(by (try dsimp only); omega), (by (try dsimp only); omega)⟩ (fun v g1 hp => ?_)
    obtain ⟨a5, N5, rfl, hN5, hpf5, hF5, hs5, hR5⟩ := hp
    refine x_callI hC xv_X5_186 dX5_against_57 (q := 60) rfl rfl (m_X13_init h0 _ (n := (200, N1)) rfl hc8 (by rw [hpf5.at (Nat.lt_succ_self N1)]; exact xu_eq _ _ _)) rfl (Nat.le_of_ble_eq_true rfl) ⟨(by (try dsimp only); omega), (by (try dsimp only); omega)⟩ ⟨(by (try dsimp only); omega), (by (try dsimp only); omega)⟩ (fun v g1 hp => ?_)
    obtain ⟨rfl, hg1⟩ := hp
    replace hg1 := hg1.symm
    subst hg1
    exact x_aret hC hr (Or.inl ⟨_, rfl⟩) (Or.inr ⟨_, rfl⟩) dX5_against_60 (by (try dsimp only); omega) (by (try dsimp only); omega) ⟨_, N5, rfl, by omega, (((((hpf1.trans hpy hN1).u60 _).u (i := N1) hN1 _).trans hpf5 (by omega)).u (i := N1) hN1 _), hF5.u (by omega) _, hs5.u _, Or.inl ⟨(200, N1), nI cc, a1, a5, r1.1, r2.1, n40, (fW_at hN1 (by omega)).trans (xu_eq _ _ _), aR_into hRy (Nat.le_refl _) (by omega) (by omega) (fun i e1 e2 => by rw [xu_ne (n_snd (by omega)), hpf5.at (by omega), xu_ne (n_snd (by omega)), xu_ne (n_fst rfl)]), aR_into hR5 (by omega) (Nat.le_refl _) (by omega) (fun i e1 e2 => by rw [xu_ne (n_snd (by omega))]), rfl⟩⟩
  · exact absurd hA1 (by
        unfold isA
        rw [show hdS ((3, [cc]) :: ts) 60 = false from by
            cases hb : hdS ((3, [cc]) :: ts) 60 with
            | false => rfl
            | true => rw [hb] at h11; exact absurd h11 (by decide), show hdS ((3, [cc]) :: ts) 62 = false from by
            cases hb : hdS ((3, [cc]) :: ts) 62 with
            | false => rfl
            | true => rw [hb] at h20; exact absurd h20 (by decide), show hdS ((3, [cc]) :: ts) 61 = false from by
            cases hb : hdS ((3, [cc]) :: ts) 61 with
            | false => rfl
            | true => rw [hb] at h29; exact absurd h29 (by decide)]
        decide)

theorem c_X5_against {l : Launch} {s0 : State} {D : va_G} (h0 : x0 l s0 D) {lv fr to F Lo : Nat} {S : pP} (hPS : cP l s0 D yX5_sum_2 cX5_sum_2 4 "KilnBench$Sum" false true F Lo 6 lv fr to S) (hLS : pLen S) (hF9 : 12 ≤ F) (hLo : 500 ≤ Lo) : cP l s0 D yX5_against cX5_against 3 "KilnBench$Test" true true (F + 1) (Lo + 30) 6 lv fr to (pAg S) := by
  intro g sc Z tx A V B d0 op N sn tk r hE hS hz hq hF hop hp
  obtain ⟨r1, r2, cc, ts, q1, q2, hc8, hA1, q3, hr0⟩ := pAg_is hp
  have h1 := m_X5_against_ (r1 := r1) (r2 := r2) (cc := cc) (ts := ts) h0 hPS hLS g hE hS hz hF hq hop q1 q2 hc8 hA1 q3 hF9 hLo
  rw [hr0]
  exact h1

set_option maxHeartbeats 4000000 in
set_option maxRecDepth 100000 in
theorem m_X5_wordFact_ {l : Launch} {s0 : State} {D : va_G} (h0 : x0 l s0 D) {lv fr to F Lo : Nat} {P : pP} (hPA : cP l s0 D yX5_against cX5_against 3 "KilnBench$Test" true true F Lo 6 lv fr to P) (hLP : pLen P) (g : xG) {sc : Nat} {Z : Nat × Nat × Nat} {tx : List Nat} {A V B : Nat → Nat} {d0 op N : Nat} (hE : PE g Z tx A V B) (hS : KS0 s0 A V B) (hz : xE0 s0 g d0) (hF : FR N g) {sn : Bool} {tk : List Tk} {r0 : pR} (hq : PSt g sc Z tx fr to op sn tk) (hn9 : hdW tk (cW 9) = false) (hop : op + lv ≤ 7) (q1 : P tk = some r0) (hF9 : 12 ≤ F) (hLo : 500 ≤ Lo) : xMet l s0 D yX5_wordFact cX5_wordFact 1 (some (.object "KilnBench$Test")) ((fRoom (F + 1) 8 (Lo + 30) tk r0.2.2)) [.ref sc] g (fPost g sc Z tx fr to op N true true r0) := by
  refine xMet.of h0 (by decide +kernel) rfl ?_
  intro zp ze zs zm za zb zf zc hC hr hnm
  obtain ⟨fs0, hc0⟩ := hq.cell
  have hE0 := hE
  have hz0 := hz
  have hs0 := hq
  have hF0 := hF
  have l1 := hLP _ _ q1
  refine x_aloadr_n hC dX5_wordFact_0 (q := 1) rfl rfl ?_
  refine x_ldcS hC (xk_9 h0 hS) dX5_wordFact_1 (q := 3) rfl ?_
  refine x_callV hC xv_X5_106 dX5_wordFact_3 (q := 6) rfl rfl (m_X5_takes h0 _ hS hE0 hs0 9 rfl (cz := 2) (sz := 20) (sR_f (by decide) (by decide) _)) (nn := (60, 0)) hc0 rfl rfl (Nat.le_of_ble_eq_true rfl) ⟨(by (try dsimp only); omega), (by (try dsimp only); omega)⟩ ⟨(by (try dsimp only); omega), (by (try dsimp only); omega)⟩ (fun v g1 hp => ?_)
  rw [hn9] at hp
  obtain ⟨rfl, hx1, hs1⟩ := hp
  have hE1 := hE0.px hx1
  have hz1 := hz0.pf (PF.px (N := 0) hx1)
  have hF1 := hF0.px hx1
  obtain ⟨fs1, hc1⟩ := hs1.cell
  refine x_if_eq hC dX5_wordFact_6 (q := 9) rfl (tgt := 19) rfl (fun h6 => ?_) (fun h6 => ?_)
  · refine x_aloadr_n hC dX5_wordFact_19 (q := 20) rfl rfl ?_
    refine x_callV hC xv_X5_177 dX5_wordFact_20 (q := 23) rfl rfl (hPA _ sc Z tx A V B d0 op N _ tk _ hE1 hS hz1 hs1 hF1 hop q1) (nn := (60, 0)) hc1 rfl rfl (Nat.le_of_ble_eq_true rfl) ⟨(by (try dsimp only); omega), (by (try dsimp only); omega)⟩ ⟨(by (try dsimp only); omega), (by (try dsimp only); omega)⟩ (fun v g1 hp => ?_)
    obtain ⟨a2, N2, rfl, hN2, hpf2, hF2, hs2, hR2⟩ := hp
    have hE2 := hE1.pf hpf2
    have hz2 := hz1.pf hpf2
    obtain ⟨fs2, hc2⟩ := hs2.cell
    exact x_aret hC hr (Or.inl ⟨_, rfl⟩) (Or.inr ⟨_, rfl⟩) dX5_wordFact_23 (by (try dsimp only); omega) (by (try dsimp only); omega) ⟨a2, N2, rfl, hN2, (PF.px hx1).trans hpf2 (Nat.le_refl _), hF2, hs2, hR2⟩
  · exact absurd (show b01 false = 0 from rfl) h6

set_option maxHeartbeats 4000000 in
set_option maxRecDepth 100000 in
theorem m_X5_fact_ {l : Launch} {s0 : State} {D : va_G} (h0 : x0 l s0 D) {lv fr to F Lo : Nat} {P : pP} (hPA : cP l s0 D yX5_against cX5_against 3 "KilnBench$Test" true true F Lo 6 lv fr to P) (hLP : pLen P) (g : xG) {sc : Nat} {Z : Nat × Nat × Nat} {tx : List Nat} {A V B : Nat → Nat} {d0 op N : Nat} (hE : PE g Z tx A V B) (hS : KS0 s0 A V B) (hz : xE0 s0 g d0) (hF : FR N g) {sn : Bool} {tk : List Tk} {r0 : pR} (hq : PSt g sc Z tx fr to op sn tk) (hn8 : hdW tk (cW 8) = false) (hn7 : hdS tk 91 = false) (hn9 : hdW tk (cW 9) = false) (hop : op + lv ≤ 7) (q1 : P tk = some r0) (hF9 : 12 ≤ F) (hLo : 500 ≤ Lo) : xMet l s0 D yX5_fact cX5_fact 3 (some (.object "KilnBench$Test")) ((fRoom (F + 2) 10 (Lo + 60) tk r0.2.2)) [.ref sc] g (fPost g sc Z tx fr to op N true true r0) := by
  refine xMet.of h0 (by decide +kernel) rfl ?_
  intro zp ze zs zm za zb zf zc hC hr hnm
  obtain ⟨fs0, hc0⟩ := hq.cell
  have hE0 := hE
  have hz0 := hz
  have hs0 := hq
  have hF0 := hF
  have l1 := hLP _ _ q1
  refine x_iconst hC dX5_fact_0 (q := 1) rfl (v := (0)) (by decide) ?_
  refine x_istore_n hC dX5_fact_1 (q := 2) rfl rfl ?_
  refine x_aloadr_n hC dX5_fact_2 (q := 3) rfl rfl ?_
  refine x_ldcS hC (xk_8 h0 hS) dX5_fact_3 (q := 5) rfl ?_
  refine x_callV hC xv_X5_96 dX5_fact_5 (q := 8) rfl rfl (m_X5_isWord h0 _ hS hE0 hs0 8 rfl (cz := 2) (sz := 20) (sR_f (by decide) (by decide) _)) (nn := (60, 0)) hc0 rfl rfl (Nat.le_of_ble_eq_true rfl) ⟨(by (try dsimp only); omega), (by (try dsimp only); omega)⟩ ⟨(by (try dsimp only); omega), (by (try dsimp only); omega)⟩ (fun v g1 hp => ?_)
  rw [hn8] at hp
  obtain ⟨rfl, hx1, hs1⟩ := hp
  have hE1 := hE0.px hx1
  have hz1 := hz0.pf (PF.px (N := 0) hx1)
  have hF1 := hF0.px hx1
  obtain ⟨fs1, hc1⟩ := hs1.cell
  refine x_if_eq hC dX5_fact_8 (q := 11) rfl (tgt := 54) rfl (fun h8 => ?_) (fun h8 => ?_)
  · refine x_aloadr_n hC dX5_fact_54 (q := 55) rfl rfl ?_
    refine x_bipush hC dX5_fact_55 (q := 57) rfl (v := (91)) (by decide) ?_
    refine x_callV hC xv_X5_93 dX5_fact_57 (q := 60) rfl rfl (m_X5_isSign h0 _ hE1 hs1 (c := 91) (by decide) (cz := 0) (sz := 0) sR_t) (nn := (60, 0)) hc1 rfl rfl (Nat.le_of_ble_eq_true rfl) ⟨(by (try dsimp only); omega), (by (try dsimp only); omega)⟩ ⟨(by (try dsimp only); omega), (by (try dsimp only); omega)⟩ (fun v g1 hp => ?_)
    rw [hn7] at hp
    obtain ⟨rfl, hx2, hs2⟩ := hp
    have hE2 := hE1.px hx2
    have hz2 := hz1.pf (PF.px (N := 0) hx2)
    have hF2 := hF1.px hx2
    obtain ⟨fs2, hc2⟩ := hs2.cell
    refine x_if_eq hC dX5_fact_60 (q := 63) rfl (tgt := 70) rfl (fun h60 => ?_) (fun h60 => ?_)
    · refine x_aloadr_n hC dX5_fact_70 (q := 71) rfl rfl ?_
      refine x_callV hC xv_X5_156 dX5_fact_71 (q := 74) rfl rfl (m_X5_wordFact_ h0 hPA hLP _ hE2 hS hz2 hF2 hs2 hn9 hop q1 hF9 hLo) (nn := (60, 0)) hc2 rfl rfl (Nat.le_of_ble_eq_true rfl) ⟨(by (try dsimp only); omega), (by (try dsimp only); omega)⟩ ⟨(by (try dsimp only); omega), (by (try dsimp only); omega)⟩ (fun v g1 hp => ?_)
      obtain ⟨a3, N3, rfl, hN3, hpf3, hF3, hs3, hR3⟩ := hp
      obtain ⟨at0, bd, pl, nb, sg, wd, hcS, hat, hb1, hb2, hpl, htk⟩ := hs3.wh
      refine x_astorer_n hC dX5_fact_74 (q := 75) rfl rfl ?_
      refine x_aloadr_n hC dX5_fact_75 (q := 76) rfl rfl ?_
      refine x_dup hC dX5_fact_76 (q := 77) rfl rfl ?_
      refine x_get hC xf_X5_119_4 dX5_fact_77 (q := 80) rfl (n := (60, 0)) hcS rfl ?_
      refine x_iload_n hC dX5_fact_80 (q := 81) rfl rfl ?_
      refine x_isub hC dX5_fact_81 (q := 82) rfl ?_
      rw [show nI op - 0 = nI op from Int32.sub_zero _]
      refine x_put hC (n := (60, 0)) xf_X5_119_4 xd_4 rfl dX5_fact_82 (q := 85) rfl hcS rfl rfl rfl ?_
      refine x_geq (xu_self hcS) ?_
      refine x_iload_n hC dX5_fact_85 (q := 86) rfl rfl ?_
      refine x_iconst hC dX5_fact_86 (q := 87) rfl (v := (2)) (by decide) ?_
      refine x_irem hC dX5_fact_87 (q := 88) rfl (by decide) ?_
      refine x_iconst hC dX5_fact_88 (q := 89) rfl (v := (1)) (by decide) ?_
      refine x_icmp_ne hC dX5_fact_89 (q := 92) rfl (tgt := 101) rfl (fun h89 => ?_) (fun h89 => ?_)
      · skip
        refine x_aloadr_n hC dX5_fact_101 (q := 102) rfl rfl ?_
        exact x_aret hC hr (Or.inl ⟨_, rfl⟩) (Or.inr ⟨_, rfl⟩) dX5_fact_102 (by (try dsimp only); omega) (by (try dsimp only); omega) ⟨a3, N3, rfl, hN3, ((PF.px hx1).trans (PF.px hx2) (Nat.le_refl _)).trans hpf3 (Nat.le_refl _), hF3, hs3, hR3⟩
      · exact absurd (show (0 : Int32) % 2 = 1 from h89) (by decide)
    · exact absurd (show b01 false = 0 from rfl) h60
  · exact absurd (show b01 false = 0 from rfl) h8

theorem c_X5_fact {l : Launch} {s0 : State} {D : va_G} (h0 : x0 l s0 D) {lv fr to F Lo : Nat} {S : pP} (hPS : cP l s0 D yX5_sum_2 cX5_sum_2 4 "KilnBench$Sum" false true F Lo 6 lv fr to S) (hLS : pLen S) (hF9 : 12 ≤ F) (hLo : 500 ≤ Lo) : cP l s0 D yX5_fact cX5_fact 3 "KilnBench$Test" true true (F + 3) (Lo + 90) 10 lv fr to (pFact S) := by
  intro g sc Z tx A V B d0 op N sn tk r hE hS hz hq hF hop hp
  obtain ⟨h8, h7, h9, h⟩ := pFact_is hp
  exact m_X5_fact_ h0 (c_X5_against h0 hPS hLS hF9 hLo) (pLen_Ag hLS) g hE hS hz hF hq h8 h7 h9 hop h (by omega) (by omega)

def SK (g : xG) (i a cnt : Nat) (all : Int32) (ad : Nat → Nat) : Prop := ∃ (tl dl : Nat) (mc : Int32) (fa : Nat → Option Nat), g (200, i) = some (a, xO 12 [.int all, .ref tl]) ∧ g (200, i + 1) = some (tl, xO 21 [.int mc, .ref dl, .int (nI cnt)]) ∧ g (200, i + 2) = some (dl, xAr (.object "java/lang/Object") 10 fa) ∧ ∀ j, j < cnt → fa j = some (ad j)
theorem SK.ext {g g1 : xG} {i a cnt : Nat} {all : Int32} {ad : Nat → Nat} (h : SK g i a cnt all ad) (he : ∀ j, i ≤ j → j < i + 5 → g1 (200, j) = g (200, j)) : SK g1 i a cnt all ad := by
  obtain ⟨tl, dl, mc, fa, h1, h2, h3, h4⟩ := h
  exact ⟨tl, dl, mc, fa, (he _ (by omega) (by omega)).trans h1, (he _ (by omega) (by omega)).trans h2, (he _ (by omega) (by omega)).trans h3, h4⟩
theorem SK.aR {g : xG} {i a cnt : Nat} {all : Int32} {ad : Nat → Nat} {fs : List (aEnv → Int64)} {N N2 d : Nat} (h : SK g i a cnt all ad) (hp : ∀ j, j < cnt → ∃ lo hi, N ≤ lo ∧ hi ≤ N2 ∧ aR (fW lo hi g) d true (ad j) (fs.getD j (fun _ => 0))) (h1 : N ≤ i) (h2 : i + 5 ≤ N2) (hl : fs.length = cnt) (h10 : cnt ≤ 10) (ha : all = 0 ∨ all = 1) : aR (fW N N2 g) (d + 1) true a (pTests all.toInt64 fs) := by
  obtain ⟨tl, dl, mc, fa, e1, e2, e3, e4⟩ := h
  refine Or.inr ⟨(200, i), (200, i + 1), (200, i + 2), tl, dl, 10, cnt, all, mc, fa, ad, fun j => fs.getD j (fun _ => 0), ⟨n40, n40, n40⟩, (fW_at (by omega) (by omega)).trans e1, ha, (fW_at (by omega) (by omega)).trans e2, (fW_at (by omega) (by omega)).trans e3, ⟨h10, by decide⟩, fun j hj => ⟨e4 j hj, ?_⟩, ?_⟩
  · obtain ⟨lo, hi, q1, q2, q3⟩ := hp j hj
    exact aR_fW q3 q1 q2
  · funext e
    unfold pTests
    rw [hl]
theorem pMoreW_len3 {w : List Nat} {all : Int64} {P : pP} (hP : pLen P) {n : Nat} {fs : List (aEnv → Int64)} {d : Nat} {tk : List Tk} {r : pR} (hn : hdW tk w = true) (h : pMoreW w all P n fs d tk = some r) : r.2.2.length + 2 ≤ tk.length := by
  cases n with
  | zero => cases h
  | succ n =>
    unfold pMoreW at h
    rw [if_pos hn] at h
    obtain ⟨r2, e, h⟩ := bind_is h
    have a1 := hP _ _ e
    have a2 := pMoreW_len hP _ _ _ _ _ h
    rw [List.length_tail] at a1
    omega
abbrev sA1 : Type := xG × List (aEnv → Int64) × (Nat → Nat) × Nat × List Tk × Bool × Nat × Nat
def SI (w : List Nat) (all : Int32) (P : pP) (g : xG) (sc : Nat) (Z : Nat × Nat × Nat) (tx : List Nat) (fr to op N N1 a tl : Nat) (r0 : pR) (x : sA1) : Prop :=
  pMoreW w all.toInt64 P x.2.2.2.2.2.2.2 x.2.1 x.2.2.2.2.2.2.1 x.2.2.2.2.1 = some r0 ∧ PF N g x.1 ∧ FR x.2.2.2.1 x.1 ∧ PSt x.1 sc Z tx fr to op true x.2.2.2.2.1 ∧ SK x.1 N1 a x.2.1.length all x.2.2.1 ∧
  (∀ j, j < x.2.1.length → ∃ lo hi, N ≤ lo ∧ hi ≤ x.2.2.2.1 ∧ (hi ≤ N1 ∨ N1 + 5 ≤ lo) ∧ aR (fW lo hi x.1) x.2.2.2.2.2.2.1 true (x.2.2.1 j) (x.2.1.getD j (fun _ => 0))) ∧ N1 + 5 ≤ x.2.2.2.1 ∧ 0 < x.2.1.length ∧ x.2.1.length + x.2.2.2.2.2.2.2 ≤ 10 ∧ x.2.2.2.2.1.length < tl ∧ (x.2.2.2.2.2.1 = true → hdW x.2.2.2.2.1 w = true)
theorem xu_o3 {g : xG} {N : Nat} {X1 X2 X3 X4 : Option (Nat × xE)} (n : xN) (h : ¬ (n.1 = 200 ∧ N ≤ n.2 ∧ n.2 < N + 5)) : xu (xu (xu (xu g (200, N) X1) (200, N + 2) X2) (200, N + 1) X3) (200, N) X4 n = g n := by
  rw [xu_ne (fun q => h (by rw [q]; exact ⟨rfl, by (try dsimp only); omega, by (try dsimp only); omega⟩)), xu_ne (fun q => h (by rw [q]; exact ⟨rfl, by (try dsimp only); omega, by (try dsimp only); omega⟩)), xu_ne (fun q => h (by rw [q]; exact ⟨rfl, by (try dsimp only); omega, by (try dsimp only); omega⟩)), xu_ne (fun q => h (by rw [q]; exact ⟨rfl, by (try dsimp only); omega, by (try dsimp only); omega⟩))]

set_option maxHeartbeats 4000000 in
set_option maxRecDepth 100000 in
theorem m_X5_both_A {l : Launch} {s0 : State} {D : va_G} (h0 : x0 l s0 D) {lv fr to F Lo : Nat} {P : pP} (hP : cP l s0 D yX5_fact cX5_fact 3 "KilnBench$Test" true true F Lo 10 lv fr to P) (hLP : pLen P) (g : xG) {sc : Nat} {Z : Nat × Nat × Nat} {tx : List Nat} {A V B : Nat → Nat} {d0 op N : Nat} (hE : PE g Z tx A V B) (hS : KS0 s0 A V B) (hz : xE0 s0 g d0) (hF : FR N g) {sn : Bool} {tk : List Tk} {r1 : pR} (hq : PSt g sc Z tx fr to op sn tk) (hop : op + lv ≤ 7) (q1 : P tk = some r1) (hF9 : 12 ≤ F) (hLo : 500 ≤ Lo) (hn : hdW r1.2.2 (cW 10) = false) : xMet l s0 D yX5_both cX5_both 3 (some (.object "KilnBench$Test")) ((fRoom (F + 1) 12 (Lo + 30) tk r1.2.2)) [.ref sc] g (fPost g sc Z tx fr to op N true true r1) := by
  refine xMet.of h0 (by decide +kernel) rfl ?_
  intro zp ze zs zm za zb zf zc hC hr hnm
  obtain ⟨fs0, hc0⟩ := hq.cell
  have hE0 := hE
  have hz0 := hz
  have hs0 := hq
  have hF0 := hF
  have l1 := hLP _ _ q1
  refine x_aloadr_n hC dX5_both_0 (q := 1) rfl rfl ?_
  refine x_callV hC xv_X5_146 dX5_both_1 (q := 4) rfl rfl (hP _ sc Z tx A V B d0 op N _ tk _ hE0 hS hz0 hs0 hF0 hop q1) (nn := (60, 0)) hc0 rfl rfl (Nat.le_of_ble_eq_true rfl) ⟨(by (try dsimp only); omega), (by (try dsimp only); omega)⟩ ⟨(by (try dsimp only); omega), (by (try dsimp only); omega)⟩ (fun v g1 hp => ?_)
  obtain ⟨a1, N1, rfl, hN1, hpf1, hF1, hs1, hR1⟩ := hp
  have hE1 := hE0.pf hpf1
  have hz1 := hz0.pf hpf1
  obtain ⟨fs1, hc1⟩ := hs1.cell
  refine x_astorer_n hC dX5_both_4 (q := 5) rfl rfl ?_
  refine x_aloadr_n hC dX5_both_5 (q := 6) rfl rfl ?_
  refine x_ldcS hC (xk_10 h0 hS) dX5_both_6 (q := 8) rfl ?_
  refine x_callV hC xv_X5_96 dX5_both_8 (q := 11) rfl rfl (m_X5_isWord h0 _ hS hE1 hs1 10 rfl (cz := 0) (sz := 0) sR_t) (nn := (60, 0)) hc1 rfl rfl (Nat.le_of_ble_eq_true rfl) ⟨(by (try dsimp only); omega), (by (try dsimp only); omega)⟩ ⟨(by (try dsimp only); omega), (by (try dsimp only); omega)⟩ (fun v g1 hp => ?_)
  rw [hn] at hp
  obtain ⟨rfl, hx2, hs2⟩ := hp
  have hE2 := hE1.px hx2
  have hz2 := hz1.pf (PF.px (N := 0) hx2)
  have hF2 := hF1.px hx2
  obtain ⟨fs2, hc2⟩ := hs2.cell
  refine x_if_ne hC dX5_both_11 (q := 14) rfl (tgt := 16) rfl (fun h11 => ?_) (fun h11 => ?_)
  · exact absurd (show b01 false = 0 from rfl) h11
  refine x_aloadr_n hC dX5_both_14 (q := 15) rfl rfl ?_
  exact x_aret hC hr (Or.inl ⟨_, rfl⟩) (Or.inr ⟨_, rfl⟩) dX5_both_15 (by (try dsimp only); omega) (by (try dsimp only); omega) ⟨a1, N1, rfl, hN1, hpf1.trans (PF.px hx2) hN1, hF2, hs2, aR_into hR1 (Nat.le_refl _) (Nat.le_refl _) (Nat.le_refl _) (fun i e1 e2 => by rw [hx2 _ (n_fst rfl) (n_fst rfl) (n_fst rfl)])⟩

set_option maxHeartbeats 4000000 in
set_option maxRecDepth 100000 in
theorem m_X5_both_B {l : Launch} {s0 : State} {D : va_G} (h0 : x0 l s0 D) {lv fr to F Lo : Nat} {P : pP} (hP : cP l s0 D yX5_fact cX5_fact 3 "KilnBench$Test" true true F Lo 10 lv fr to P) (hLP : pLen P) (g : xG) {sc : Nat} {Z : Nat × Nat × Nat} {tx : List Nat} {A V B : Nat → Nat} {d0 op N : Nat} (hE : PE g Z tx A V B) (hS : KS0 s0 A V B) (hz : xE0 s0 g d0) (hF : FR N g) {sn : Bool} {tk : List Tk} {r1 : pR} (hq : PSt g sc Z tx fr to op sn tk) (hop : op + lv ≤ 7) (q1 : P tk = some r1) (hF9 : 12 ≤ F) (hLo : 500 ≤ Lo) {r0 : pR} (hn : hdW r1.2.2 (cW 10) = true) (q2 : pMoreW (cW 10) 1 P 9 [r1.1] r1.2.1 r1.2.2 = some r0) (hl0 : r0.2.2.length + 2 ≤ r1.2.2.length) : xMet l s0 D yX5_both cX5_both 3 (some (.object "KilnBench$Test")) ((fRoom (F + 1) 12 (Lo + 30) tk r0.2.2)) [.ref sc] g (fPost g sc Z tx fr to op N true true r0) := by
  refine xMet.of h0 (by decide +kernel) rfl ?_
  intro zp ze zs zm za zb zf zc hC hr hnm
  obtain ⟨fs0, hc0⟩ := hq.cell
  have hE0 := hE
  have hz0 := hz
  have hs0 := hq
  have hF0 := hF
  have l1 := hLP _ _ q1
  refine x_aloadr_n hC dX5_both_0 (q := 1) rfl rfl ?_
  refine x_callV hC xv_X5_146 dX5_both_1 (q := 4) rfl rfl (hP _ sc Z tx A V B d0 op N _ tk _ hE0 hS hz0 hs0 hF0 hop q1) (nn := (60, 0)) hc0 rfl rfl (Nat.le_of_ble_eq_true rfl) ⟨(by (try dsimp only); omega), (by (try dsimp only); omega)⟩ ⟨(by (try dsimp only); omega), (by (try dsimp only); omega)⟩ (fun v g1 hp => ?_)
  obtain ⟨a1, N1, rfl, hN1, hpf1, hF1, hs1, hR1⟩ := hp
  have hE1 := hE0.pf hpf1
  have hz1 := hz0.pf hpf1
  obtain ⟨fs1, hc1⟩ := hs1.cell
  refine x_astorer_n hC dX5_both_4 (q := 5) rfl rfl ?_
  refine x_aloadr_n hC dX5_both_5 (q := 6) rfl rfl ?_
  refine x_ldcS hC (xk_10 h0 hS) dX5_both_6 (q := 8) rfl ?_
  refine x_callV hC xv_X5_96 dX5_both_8 (q := 11) rfl rfl (m_X5_isWord h0 _ hS hE1 hs1 10 rfl (cz := 0) (sz := 0) sR_t) (nn := (60, 0)) hc1 rfl rfl (Nat.le_of_ble_eq_true rfl) ⟨(by (try dsimp only); omega), (by (try dsimp only); omega)⟩ ⟨(by (try dsimp only); omega), (by (try dsimp only); omega)⟩ (fun v gt2 hp => ?_)
  rw [hn] at hp
  obtain ⟨rfl, hx2, hs2⟩ := hp
  have hE2 := hE1.px hx2
  have hz2 := hz1.pf (PF.px (N := 0) hx2)
  have hF2 := hF1.px hx2
  obtain ⟨fs2, hc2⟩ := hs2.cell
  refine x_if_ne hC dX5_both_11 (q := 14) rfl (tgt := 16) rfl (fun h11 => ?_) (fun h11 => ?_)
  · have hRz : aR (fW N N1 gt2) r1.2.1 true a1 r1.1 := aR_into hR1 (Nat.le_refl _) (Nat.le_refl _) (Nat.le_refl _) (fun i e1 e2 => hx2 _ (n_fst rfl) (n_fst rfl) (n_fst rfl))
    obtain ⟨k1, x1, hk1, hk2, he1, hx9⟩ := aR_cell hRz
    refine x_new hC (fs := [.int 0, .null]) (200, N1) xc_12 q936 q937 q109 dX5_both_16 (q := 19) rfl rfl (hF2.1 N1 (Nat.le_refl _)) (fun j hj => by match j, hj with | 0, _ => rfl | 1, _ => rfl | j + 2, h => exact absurd h (by omega)) (by (try dsimp only); omega) (by (try dsimp only); omega) (fun a_16 => ?_)
    refine x_dup hC dX5_both_19 (q := 20) rfl rfl ?_
    refine x_iconst hC dX5_both_20 (q := 21) rfl (v := (1)) (by decide) ?_
    refine x_aloadr_n hC dX5_both_21 (q := 22) rfl rfl ?_
    refine x_callI hC xv_X5_134 dX5_both_22 (q := 25) rfl rfl (m_X15_init h0 _ (n := (200, N1)) (nl := (200, N1 + 1)) (nd := (200, N1 + 2)) (n2 := (200, k1)) (by first | exact Or.inl rfl | exact Or.inr rfl) rfl rfl rfl (by rw [xu_ne (n_snd (by omega))]; exact hF2.1 _ (by omega)) (by rw [xu_ne (n_snd (by omega))]; exact hF2.1 _ (by omega)) (n_snd (by omega)) (hz2.up rfl _) (xu_eq _ _ _) rfl (n_snd (by omega)) (by rw [xu_ne (n_snd (by omega))]; exact he1) hx9) rfl (Nat.le_of_ble_eq_true rfl) ⟨(by (try dsimp only); omega), (by (try dsimp only); omega)⟩ ⟨(by (try dsimp only); omega), (by (try dsimp only); omega)⟩ (fun v g1 hp => ?_)
    obtain ⟨la, d1, rfl, hg1⟩ := hp
    replace hg1 := hg1.symm
    subst hg1
    have hoz := xu_o3 (g := gt2) (N := N1) (X1 := some (a_16, xO 12 [.int 0, .null])) (X2 := some (d1, xAr (.object "java/lang/Object") 10 (va_up (fun _ => none) 0 (some a1)))) (X3 := some (la, xO 21 [.int 1, .ref d1, .int 1])) (X4 := some (a_16, xO 12 [.int 1, .ref la]))
    have hpx2 := (((((hpf1.trans (PF.px hx2) hN1).u (i := N1) hN1 (some (a_16, xO 12 [.int 0, .null]))).u (i := N1 + 2) (by omega) (some (d1, xAr (.object "java/lang/Object") 10 (va_up (fun _ => none) 0 (some a1))))).u (i := N1 + 1) (by omega) (some (la, xO 21 [.int 1, .ref d1, .int 1]))).u (i := N1) hN1 (some (a_16, xO 12 [.int 1, .ref la])))
    have hF5 := (((((hF2.le (show N1 ≤ N1 + 5 by omega)).u (i := N1) (by omega) (some (a_16, xO 12 [.int 0, .null]))).u (i := N1 + 2) (by omega) (some (d1, xAr (.object "java/lang/Object") 10 (va_up (fun _ => none) 0 (some a1))))).u (i := N1 + 1) (by omega) (some (la, xO 21 [.int 1, .ref d1, .int 1]))).u (i := N1) (by omega) (some (a_16, xO 12 [.int 1, .ref la])))
    have hs5 := ((((hs2.u (i := N1) (some (a_16, xO 12 [.int 0, .null]))).u (i := N1 + 2) (some (d1, xAr (.object "java/lang/Object") 10 (va_up (fun _ => none) 0 (some a1))))).u (i := N1 + 1) (some (la, xO 21 [.int 1, .ref d1, .int 1]))).u (i := N1) (some (a_16, xO 12 [.int 1, .ref la])))
    have hSK : SK (xu (xu (xu (xu gt2 (200, N1) (some (a_16, xO 12 [.int 0, .null]))) (200, N1 + 2) (some (d1, xAr (.object "java/lang/Object") 10 (va_up (fun _ => none) 0 (some a1))))) (200, N1 + 1) (some (la, xO 21 [.int 1, .ref d1, .int 1]))) (200, N1) (some (a_16, xO 12 [.int 1, .ref la]))) N1 a_16 1 1 (fun _ => a1) := ⟨la, d1, 1, va_up (fun _ => none) 0 (some a1), xu_eq _ _ _, by rw [xu_ne (n_snd (by omega)), xu_eq]; rfl, by rw [xu_ne (n_snd (by omega)), xu_ne (n_snd (by omega)), xu_eq], fun j hj => by rw [show j = 0 by omega]; rfl⟩
    refine x_astorer_n hC dX5_both_25 (q := 26) rfl rfl ?_
    refine x_widen (k0 := 20 * (tk.length - r1.2.2.length - 1) + 20) (n0 := 5000 * (tk.length - r1.2.2.length - 1) + 400) (by (try dsimp only [fRoom]); omega) (by (try dsimp only [fRoom]); omega) ?_
    refine x_loop (S := (fun x : sA1 => (20 * (tk.length - x.2.2.2.2.1.length - 1) + (if x.2.2.2.2.2.1 then 20 else 12), 5000 * (tk.length - x.2.2.2.2.1.length - 1) + (if x.2.2.2.2.2.1 then 400 else 240), x.1, ([some (.ref sc), some (.ref a1), some (.ref a_16)] : xL), ([] : List Value)))) (Inv := SI (cW 10) 1 P g sc Z tx fr to op N N1 a_16 tk.length r0) (μ := fun x => x.2.2.2.2.2.2.2) ?_ (_, [r1.1], fun _ => a1, N1 + 5, r1.2.2, true, r1.2.1, 9) ⟨q2, hpx2, hF5, hs5, hSK, fun j hj => ⟨N, N1, Nat.le_refl _, by (try dsimp only); omega, Or.inl (Nat.le_refl _), ?_⟩, Nat.le_refl _, (by decide : 0 < 1), (by decide : 1 + 9 ≤ 10), l1, fun _ => hn⟩
    rotate_left
    · have hj0 : j = 0 := Nat.lt_one_iff.mp hj
      subst hj0
      exact aR_into hRz (Nat.le_refl _) (Nat.le_refl _) (Nat.le_refl _) (fun i e1 e2 => hoz _ (fun q => by have := q.2.1; dsimp only at this; omega))
    intro x hi ih
    obtain ⟨G, fs, ad, N2, tkc, t, dd, n⟩ := x
    obtain ⟨w1, w2, w3, w4, w5, w6, w7, w8, w9, w11, w12⟩ := hi
    dsimp only at w1 w2 w3 w4 w5 w6 w7 w8 w9 w11 w12 ih ⊢
    obtain ⟨n, rfl⟩ : ∃ n', n = n' + 1 := by
      cases n with
      | zero => cases w1
      | succ n => exact ⟨n, rfl⟩
    have hl8 : r0.2.2.length + (if t then 2 else 0) ≤ tkc.length := by
      cases t with
      | false => exact pMoreW_len hLP _ _ _ _ _ w1
      | true => exact pMoreW_len3 hLP (w12 rfl) w1
    have hE5 := hE.pf w2
    have hz5 := hz.pf w2
    have hF5 := w3
    have hs5 := w4
    obtain ⟨fs5, hc5⟩ := hs5.cell
    refine x_aloadr_n hC dX5_both_26 (q := 27) rfl rfl ?_
    refine x_ldcS hC (xk_10 h0 hS) dX5_both_27 (q := 29) rfl ?_
    refine x_callV hC xv_X5_106 dX5_both_29 (q := 32) rfl rfl (m_X5_takes h0 _ hS hE5 hs5 10 rfl (cz := 0) (sz := 0) sR_t) (nn := (60, 0)) hc5 rfl rfl (Nat.le_of_ble_eq_true rfl) ⟨(by (try dsimp only); omega), (by (try dsimp only); omega)⟩ ⟨by cases t <;> (dsimp only [fRoom]; simp only [if_true, Bool.false_eq_true, if_false] at hl8 ⊢; omega), by cases t <;> (dsimp only [fRoom]; simp only [if_true, Bool.false_eq_true, if_false] at hl8 ⊢; omega)⟩ (fun v g1 hp => ?_)
    obtain ⟨rfl, hx6, hs6⟩ := hp
    have hE6 := hE5.px hx6
    have hz6 := hz5.pf (PF.px (N := 0) hx6)
    have hF6 := hF5.px hx6
    obtain ⟨fs6, hc6⟩ := hs6.cell
    refine x_if_eq hC dX5_both_32 (q := 35) rfl (tgt := 50) rfl (fun h32 => ?_) (fun h32 => ?_)
    · have hno : hdW tkc (cW 10) = false := by
        cases hb : hdW tkc (cW 10) with
        | false => rfl
        | true => rw [hb] at h32; exact absurd h32 (by decide)
      have w1b := w1
      unfold pMoreW at w1b
      rw [if_neg (by rw [hno]; decide)] at w1b
      have ht : t = false := by
        cases t with
        | false => rfl
        | true => rw [w12 rfl] at hno; cases hno
      subst ht
      cases w1b
      rw [hno] at hs6
      refine x_aloadr_n hC dX5_both_50 (q := 51) rfl rfl ?_
      exact x_aret hC hr (Or.inl ⟨_, rfl⟩) (Or.inr ⟨_, rfl⟩) dX5_both_51 (by dsimp only [fRoom]; simp only [Bool.false_eq_true, if_false] at hl8 ⊢; omega) (by dsimp only [fRoom]; simp only [Bool.false_eq_true, if_false] at hl8 ⊢; omega) ⟨a_16, N2, rfl, by omega, w2.trans (PF.px hx6) (by omega), hF6, hs6, (w5.ext (fun j e1 e2 => hx6 _ (n_fst rfl) (n_fst rfl) (n_fst rfl))).aR (fun j hj => by
            obtain ⟨lo, hi, v1, v2, v3, v4⟩ := w6 j hj
            exact ⟨lo, hi, v1, v2, aR_into v4 (Nat.le_refl _) (Nat.le_refl _) (Nat.le_refl _) (fun i e1 e2 => hx6 _ (n_fst rfl) (n_fst rfl) (n_fst rfl))⟩) (by omega) (by omega) rfl (by omega) (by first | exact Or.inl rfl | exact Or.inr rfl)⟩
    have hys : hdW tkc (cW 10) = true := by
      cases hb : hdW tkc (cW 10) with
      | true => rfl
      | false => rw [hb] at h32; exact absurd rfl h32
    have w1b := w1
    unfold pMoreW at w1b
    rw [if_pos hys] at w1b
    obtain ⟨r2, q3, w1c⟩ := bind_is w1b
    have htk1 := hdW_is hys
    have l3 := hLP _ _ q3
    have l7 := pMoreW_len hLP _ _ _ _ _ w1c
    have l4 : tkc.length = tkc.tail.length + 1 := by
      have := congrArg List.length htk1
      exact this
    rw [hys] at hs6
    obtain ⟨tl6, dl6, mc6, fa6, hn6, hl6, hd6, hfa6⟩ := w5.ext (fun j e1 e2 => hx6 _ (n_fst rfl) (n_fst rfl) (n_fst rfl))
    refine x_aloadr_n hC dX5_both_35 (q := 36) rfl rfl ?_
    refine x_get hC xf_X5_137_12 dX5_both_36 (q := 39) rfl (n := (200, N1)) hn6 rfl ?_
    refine x_aloadr_n hC dX5_both_39 (q := 40) rfl rfl ?_
    refine x_callV hC xv_X5_146 dX5_both_40 (q := 43) rfl rfl (hP _ sc Z tx A V B d0 op N2 _ tkc.tail r2 hE6 hS hz6 hs6 hF6 hop q3) (nn := (60, 0)) hc6 rfl rfl (Nat.le_of_ble_eq_true rfl) ⟨(by (try dsimp only); omega), (by (try dsimp only); omega)⟩ ⟨by cases t <;> (dsimp only [fRoom]; simp only [if_true, Bool.false_eq_true, if_false] at hl8 ⊢; omega), by cases t <;> (dsimp only [fRoom]; simp only [if_true, Bool.false_eq_true, if_false] at hl8 ⊢; omega)⟩ (fun v gS hp => ?_)
    obtain ⟨a2, N3, rfl, hN3, hpf3, hF3, hs10, hR3⟩ := hp
    have hpf4 := (PF.px (N := N2) hx6).trans hpf3 (Nat.le_refl N2)
    have hpf5 := w2.trans hpf4 (by omega)
    have hn9 := (hpf3.at (i := N1) (by omega)).trans hn6
    have hl9 := (hpf3.at (i := N1 + 1) (by omega)).trans hl6
    have hd9 := (hpf3.at (i := N1 + 2) (by omega)).trans hd6
    obtain ⟨k3, x3, hk3, hk4, he3, hx3⟩ := aR_cell hR3
    refine x_callV hC xv_X5_141 dX5_both_43 (q := 46) rfl rfl (m_J3_add_A h0 _ (n := (200, N1 + 1)) (nd := (200, N1 + 2)) (n2 := (200, k3)) rfl rfl rfl (n_snd (by omega)) (n_snd (by omega)) hl9 hd9 he3 hx3 (by omega) (by decide)) (nn := (200, N1 + 1)) hl9 rfl rfl (Nat.le_of_ble_eq_true rfl) ⟨(by (try dsimp only); omega), (by (try dsimp only); omega)⟩ ⟨by cases t <;> (dsimp only [fRoom]; simp only [if_true, Bool.false_eq_true, if_false] at hl8 ⊢; omega), by cases t <;> (dsimp only [fRoom]; simp only [if_true, Bool.false_eq_true, if_false] at hl8 ⊢; omega)⟩ (fun v g1 hp => ?_)
    obtain ⟨rfl, hg1⟩ := hp
    replace hg1 := hg1.symm
    subst hg1
    refine x_pop hC dX5_both_46 (q := 47) rfl rfl ?_
    refine x_goto hC dX5_both_47 (tgt := 26) rfl ?_
    obtain ⟨gq, hgq⟩ : ∃ gq, gq = xu (xu gS (200, N1 + 2) (some (dl6, xAr (.object "java/lang/Object") 10 (va_up fa6 fs.length (some a2))))) (200, N1 + 1) (some (tl6, xO 21 [.int (mc6 + 1), .ref dl6, .int (nI (fs.length + 1))])) := ⟨_, rfl⟩
    refine x_geq hgq.symm ?_
    have hq1 : PF N g gq := by rw [hgq]; exact (hpf5.u (i := N1 + 2) (by omega) _).u (i := N1 + 1) (by omega) _
    have hq2 : FR N3 gq := by rw [hgq]; exact (hF3.u (i := N1 + 2) (by omega) _).u (i := N1 + 1) (by omega) _
    have hq3 : PSt gq sc Z tx fr to op true r2.2.2 := by rw [hgq]; exact (hs10.u _).u _
    have hq4 : SK gq N1 a_16 (fs ++ [r2.1]).length 1 (fun j => if j = fs.length then a2 else ad j) := by
      rw [hgq, List.length_append]
      refine ⟨tl6, dl6, mc6 + 1, _, by rw [xu_ne (n_snd (by omega)), xu_ne (n_snd (by omega))]; exact hn9, xu_eq _ _ _, by rw [xu_ne (n_snd (by omega)), xu_eq], fun j hj => ?_⟩
      dsimp only
      by_cases e : j = fs.length
      · subst e; simp [va_up]
      · simp only [va_up, if_neg e]; exact hfa6 j (by simp at hj; omega)
    have hq5 : ∀ i, N1 + 5 ≤ i ∨ i < N1 + 1 → gq (200, i) = gS (200, i) := fun i hi => by rw [hgq, xu_ne (n_snd (by omega)), xu_ne (n_snd (by omega))]
    refine x_widen (k0 := 20 * (tk.length - r2.2.2.length - 1) + 12) (n0 := 5000 * (tk.length - r2.2.2.length - 1) + 240) (by
      cases t <;> (dsimp only [fRoom]; simp only [if_true, Bool.false_eq_true, if_false] at hl8 ⊢; omega)) (by
      cases t <;> (dsimp only [fRoom]; simp only [if_true, Bool.false_eq_true, if_false] at hl8 ⊢; omega)) ?_
    exact ih (gq, fs ++ [r2.1], fun j => if j = fs.length then a2 else ad j, N3, r2.2.2, false, max dd r2.2.1, n) ⟨w1c, hq1, hq2, hq3, hq4, fun j hj => by
      dsimp only at hj ⊢
      rw [List.length_append] at hj
      by_cases e : j = fs.length
      · subst e
        refine ⟨N2, N3, by omega, Nat.le_refl _, Or.inr (by omega), ?_⟩
        rw [if_pos rfl, gD_appr (Nat.le_refl _), Nat.sub_self]
        exact aR_into hR3 (Nat.le_refl _) (Nat.le_refl _) (by omega) (fun i e1 e2 => hq5 i (by omega))
      · have hj2 : j < fs.length := by simp at hj; omega
        obtain ⟨lo, hi, v1, v2, v3, v4⟩ := w6 j hj2
        refine ⟨lo, hi, v1, by omega, v3, ?_⟩
        rw [if_neg e, gD_app hj2]
        exact aR_into v4 (Nat.le_refl _) (Nat.le_refl _) (by omega) (fun i e1 e2 => (hq5 i (by omega)).trans (hpf4.at (by omega))), by dsimp only; omega, by dsimp only; rw [List.length_append]; exact Nat.succ_pos _, by dsimp only; rw [List.length_append]; simp only [List.length_singleton]; omega, by dsimp only; omega, fun q => by cases q⟩ (by dsimp only; omega)
  · exact absurd (show b01 true = 0 from h11) (by decide)

theorem c_X5_both {l : Launch} {s0 : State} {D : va_G} (h0 : x0 l s0 D) {lv fr to F Lo : Nat} {P : pP} (hP : cP l s0 D yX5_fact cX5_fact 3 "KilnBench$Test" true true F Lo 10 lv fr to P) (hLP : pLen P) (hF9 : 12 ≤ F) (hLo : 500 ≤ Lo) : cP l s0 D yX5_both cX5_both 3 "KilnBench$Test" true true (F + 1) (Lo + 30) 12 lv fr to (pSev (cW 10) 1 P) := by
  intro g sc Z tx A V B d0 op N sn tk r hE hS hz hq hF hop hp
  obtain ⟨r1, q1, ⟨hn, rfl⟩ | ⟨hn, q2⟩⟩ := pSev_is hp
  · exact m_X5_both_A h0 hP hLP g hE hS hz hF hq hop q1 hF9 hLo hn
  · exact m_X5_both_B h0 hP hLP g hE hS hz hF hq hop q1 hF9 hLo hn q2 (pMoreW_len3 hLP hn q2)

set_option maxHeartbeats 4000000 in
set_option maxRecDepth 100000 in
theorem m_X5_test_A {l : Launch} {s0 : State} {D : va_G} (h0 : x0 l s0 D) {lv fr to F Lo : Nat} {P : pP} (hP : cP l s0 D yX5_both cX5_both 3 "KilnBench$Test" true true F Lo 12 lv fr to P) (hLP : pLen P) (g : xG) {sc : Nat} {Z : Nat × Nat × Nat} {tx : List Nat} {A V B : Nat → Nat} {d0 op N : Nat} (hE : PE g Z tx A V B) (hS : KS0 s0 A V B) (hz : xE0 s0 g d0) (hF : FR N g) {sn : Bool} {tk : List Tk} {r1 : pR} (hq : PSt g sc Z tx fr to op sn tk) (hop : op + lv ≤ 7) (q1 : P tk = some r1) (hF9 : 12 ≤ F) (hLo : 500 ≤ Lo) (hn : hdW r1.2.2 (cW 11) = false) : xMet l s0 D yX5_test cX5_test 3 (some (.object "KilnBench$Test")) ((fRoom (F + 1) 14 (Lo + 30) tk r1.2.2)) [.ref sc] g (fPost g sc Z tx fr to op N true true r1) := by
  refine xMet.of h0 (by decide +kernel) rfl ?_
  intro zp ze zs zm za zb zf zc hC hr hnm
  obtain ⟨fs0, hc0⟩ := hq.cell
  have hE0 := hE
  have hz0 := hz
  have hs0 := hq
  have hF0 := hF
  have l1 := hLP _ _ q1
  refine x_aloadr_n hC dX5_test_0 (q := 1) rfl rfl ?_
  refine x_callV hC xv_X5_126 dX5_test_1 (q := 4) rfl rfl (hP _ sc Z tx A V B d0 op N _ tk _ hE0 hS hz0 hs0 hF0 hop q1) (nn := (60, 0)) hc0 rfl rfl (Nat.le_of_ble_eq_true rfl) ⟨(by (try dsimp only); omega), (by (try dsimp only); omega)⟩ ⟨(by (try dsimp only); omega), (by (try dsimp only); omega)⟩ (fun v g1 hp => ?_)
  obtain ⟨a1, N1, rfl, hN1, hpf1, hF1, hs1, hR1⟩ := hp
  have hE1 := hE0.pf hpf1
  have hz1 := hz0.pf hpf1
  obtain ⟨fs1, hc1⟩ := hs1.cell
  refine x_astorer_n hC dX5_test_4 (q := 5) rfl rfl ?_
  refine x_aloadr_n hC dX5_test_5 (q := 6) rfl rfl ?_
  refine x_ldcS hC (xk_11 h0 hS) dX5_test_6 (q := 8) rfl ?_
  refine x_callV hC xv_X5_96 dX5_test_8 (q := 11) rfl rfl (m_X5_isWord h0 _ hS hE1 hs1 11 rfl (cz := 0) (sz := 0) sR_t) (nn := (60, 0)) hc1 rfl rfl (Nat.le_of_ble_eq_true rfl) ⟨(by (try dsimp only); omega), (by (try dsimp only); omega)⟩ ⟨(by (try dsimp only); omega), (by (try dsimp only); omega)⟩ (fun v g1 hp => ?_)
  rw [hn] at hp
  obtain ⟨rfl, hx2, hs2⟩ := hp
  have hE2 := hE1.px hx2
  have hz2 := hz1.pf (PF.px (N := 0) hx2)
  have hF2 := hF1.px hx2
  obtain ⟨fs2, hc2⟩ := hs2.cell
  refine x_if_ne hC dX5_test_11 (q := 14) rfl (tgt := 16) rfl (fun h11 => ?_) (fun h11 => ?_)
  · exact absurd (show b01 false = 0 from rfl) h11
  refine x_aloadr_n hC dX5_test_14 (q := 15) rfl rfl ?_
  exact x_aret hC hr (Or.inl ⟨_, rfl⟩) (Or.inr ⟨_, rfl⟩) dX5_test_15 (by (try dsimp only); omega) (by (try dsimp only); omega) ⟨a1, N1, rfl, hN1, hpf1.trans (PF.px hx2) hN1, hF2, hs2, aR_into hR1 (Nat.le_refl _) (Nat.le_refl _) (Nat.le_refl _) (fun i e1 e2 => by rw [hx2 _ (n_fst rfl) (n_fst rfl) (n_fst rfl)])⟩

set_option maxHeartbeats 4000000 in
set_option maxRecDepth 100000 in
theorem m_X5_test_B {l : Launch} {s0 : State} {D : va_G} (h0 : x0 l s0 D) {lv fr to F Lo : Nat} {P : pP} (hP : cP l s0 D yX5_both cX5_both 3 "KilnBench$Test" true true F Lo 12 lv fr to P) (hLP : pLen P) (g : xG) {sc : Nat} {Z : Nat × Nat × Nat} {tx : List Nat} {A V B : Nat → Nat} {d0 op N : Nat} (hE : PE g Z tx A V B) (hS : KS0 s0 A V B) (hz : xE0 s0 g d0) (hF : FR N g) {sn : Bool} {tk : List Tk} {r1 : pR} (hq : PSt g sc Z tx fr to op sn tk) (hop : op + lv ≤ 7) (q1 : P tk = some r1) (hF9 : 12 ≤ F) (hLo : 500 ≤ Lo) {r0 : pR} (hn : hdW r1.2.2 (cW 11) = true) (q2 : pMoreW (cW 11) 0 P 9 [r1.1] r1.2.1 r1.2.2 = some r0) (hl0 : r0.2.2.length + 2 ≤ r1.2.2.length) : xMet l s0 D yX5_test cX5_test 3 (some (.object "KilnBench$Test")) ((fRoom (F + 1) 14 (Lo + 30) tk r0.2.2)) [.ref sc] g (fPost g sc Z tx fr to op N true true r0) := by
  refine xMet.of h0 (by decide +kernel) rfl ?_
  intro zp ze zs zm za zb zf zc hC hr hnm
  obtain ⟨fs0, hc0⟩ := hq.cell
  have hE0 := hE
  have hz0 := hz
  have hs0 := hq
  have hF0 := hF
  have l1 := hLP _ _ q1
  refine x_aloadr_n hC dX5_test_0 (q := 1) rfl rfl ?_
  refine x_callV hC xv_X5_126 dX5_test_1 (q := 4) rfl rfl (hP _ sc Z tx A V B d0 op N _ tk _ hE0 hS hz0 hs0 hF0 hop q1) (nn := (60, 0)) hc0 rfl rfl (Nat.le_of_ble_eq_true rfl) ⟨(by (try dsimp only); omega), (by (try dsimp only); omega)⟩ ⟨(by (try dsimp only); omega), (by (try dsimp only); omega)⟩ (fun v g1 hp => ?_)
  obtain ⟨a1, N1, rfl, hN1, hpf1, hF1, hs1, hR1⟩ := hp
  have hE1 := hE0.pf hpf1
  have hz1 := hz0.pf hpf1
  obtain ⟨fs1, hc1⟩ := hs1.cell
  refine x_astorer_n hC dX5_test_4 (q := 5) rfl rfl ?_
  refine x_aloadr_n hC dX5_test_5 (q := 6) rfl rfl ?_
  refine x_ldcS hC (xk_11 h0 hS) dX5_test_6 (q := 8) rfl ?_
  refine x_callV hC xv_X5_96 dX5_test_8 (q := 11) rfl rfl (m_X5_isWord h0 _ hS hE1 hs1 11 rfl (cz := 0) (sz := 0) sR_t) (nn := (60, 0)) hc1 rfl rfl (Nat.le_of_ble_eq_true rfl) ⟨(by (try dsimp only); omega), (by (try dsimp only); omega)⟩ ⟨(by (try dsimp only); omega), (by (try dsimp only); omega)⟩ (fun v gt2 hp => ?_)
  rw [hn] at hp
  obtain ⟨rfl, hx2, hs2⟩ := hp
  have hE2 := hE1.px hx2
  have hz2 := hz1.pf (PF.px (N := 0) hx2)
  have hF2 := hF1.px hx2
  obtain ⟨fs2, hc2⟩ := hs2.cell
  refine x_if_ne hC dX5_test_11 (q := 14) rfl (tgt := 16) rfl (fun h11 => ?_) (fun h11 => ?_)
  · have hRz : aR (fW N N1 gt2) r1.2.1 true a1 r1.1 := aR_into hR1 (Nat.le_refl _) (Nat.le_refl _) (Nat.le_refl _) (fun i e1 e2 => hx2 _ (n_fst rfl) (n_fst rfl) (n_fst rfl))
    obtain ⟨k1, x1, hk1, hk2, he1, hx9⟩ := aR_cell hRz
    refine x_new hC (fs := [.int 0, .null]) (200, N1) xc_12 q936 q937 q109 dX5_test_16 (q := 19) rfl rfl (hF2.1 N1 (Nat.le_refl _)) (fun j hj => by match j, hj with | 0, _ => rfl | 1, _ => rfl | j + 2, h => exact absurd h (by omega)) (by (try dsimp only); omega) (by (try dsimp only); omega) (fun a_16 => ?_)
    refine x_dup hC dX5_test_19 (q := 20) rfl rfl ?_
    refine x_iconst hC dX5_test_20 (q := 21) rfl (v := (0)) (by decide) ?_
    refine x_aloadr_n hC dX5_test_21 (q := 22) rfl rfl ?_
    refine x_callI hC xv_X5_134 dX5_test_22 (q := 25) rfl rfl (m_X15_init h0 _ (n := (200, N1)) (nl := (200, N1 + 1)) (nd := (200, N1 + 2)) (n2 := (200, k1)) (by first | exact Or.inl rfl | exact Or.inr rfl) rfl rfl rfl (by rw [xu_ne (n_snd (by omega))]; exact hF2.1 _ (by omega)) (by rw [xu_ne (n_snd (by omega))]; exact hF2.1 _ (by omega)) (n_snd (by omega)) (hz2.up rfl _) (xu_eq _ _ _) rfl (n_snd (by omega)) (by rw [xu_ne (n_snd (by omega))]; exact he1) hx9) rfl (Nat.le_of_ble_eq_true rfl) ⟨(by (try dsimp only); omega), (by (try dsimp only); omega)⟩ ⟨(by (try dsimp only); omega), (by (try dsimp only); omega)⟩ (fun v g1 hp => ?_)
    obtain ⟨la, d1, rfl, hg1⟩ := hp
    replace hg1 := hg1.symm
    subst hg1
    have hoz := xu_o3 (g := gt2) (N := N1) (X1 := some (a_16, xO 12 [.int 0, .null])) (X2 := some (d1, xAr (.object "java/lang/Object") 10 (va_up (fun _ => none) 0 (some a1)))) (X3 := some (la, xO 21 [.int 1, .ref d1, .int 1])) (X4 := some (a_16, xO 12 [.int 0, .ref la]))
    have hpx2 := (((((hpf1.trans (PF.px hx2) hN1).u (i := N1) hN1 (some (a_16, xO 12 [.int 0, .null]))).u (i := N1 + 2) (by omega) (some (d1, xAr (.object "java/lang/Object") 10 (va_up (fun _ => none) 0 (some a1))))).u (i := N1 + 1) (by omega) (some (la, xO 21 [.int 1, .ref d1, .int 1]))).u (i := N1) hN1 (some (a_16, xO 12 [.int 0, .ref la])))
    have hF5 := (((((hF2.le (show N1 ≤ N1 + 5 by omega)).u (i := N1) (by omega) (some (a_16, xO 12 [.int 0, .null]))).u (i := N1 + 2) (by omega) (some (d1, xAr (.object "java/lang/Object") 10 (va_up (fun _ => none) 0 (some a1))))).u (i := N1 + 1) (by omega) (some (la, xO 21 [.int 1, .ref d1, .int 1]))).u (i := N1) (by omega) (some (a_16, xO 12 [.int 0, .ref la])))
    have hs5 := ((((hs2.u (i := N1) (some (a_16, xO 12 [.int 0, .null]))).u (i := N1 + 2) (some (d1, xAr (.object "java/lang/Object") 10 (va_up (fun _ => none) 0 (some a1))))).u (i := N1 + 1) (some (la, xO 21 [.int 1, .ref d1, .int 1]))).u (i := N1) (some (a_16, xO 12 [.int 0, .ref la])))
    have hSK : SK (xu (xu (xu (xu gt2 (200, N1) (some (a_16, xO 12 [.int 0, .null]))) (200, N1 + 2) (some (d1, xAr (.object "java/lang/Object") 10 (va_up (fun _ => none) 0 (some a1))))) (200, N1 + 1) (some (la, xO 21 [.int 1, .ref d1, .int 1]))) (200, N1) (some (a_16, xO 12 [.int 0, .ref la]))) N1 a_16 1 0 (fun _ => a1) := ⟨la, d1, 1, va_up (fun _ => none) 0 (some a1), xu_eq _ _ _, by rw [xu_ne (n_snd (by omega)), xu_eq]; rfl, by rw [xu_ne (n_snd (by omega)), xu_ne (n_snd (by omega)), xu_eq], fun j hj => by rw [show j = 0 by omega]; rfl⟩
    refine x_astorer_n hC dX5_test_25 (q := 26) rfl rfl ?_
    refine x_widen (k0 := 20 * (tk.length - r1.2.2.length - 1) + 20) (n0 := 5000 * (tk.length - r1.2.2.length - 1) + 400) (by (try dsimp only [fRoom]); omega) (by (try dsimp only [fRoom]); omega) ?_
    refine x_loop (S := (fun x : sA1 => (20 * (tk.length - x.2.2.2.2.1.length - 1) + (if x.2.2.2.2.2.1 then 20 else 14), 5000 * (tk.length - x.2.2.2.2.1.length - 1) + (if x.2.2.2.2.2.1 then 400 else 280), x.1, ([some (.ref sc), some (.ref a1), some (.ref a_16)] : xL), ([] : List Value)))) (Inv := SI (cW 11) 0 P g sc Z tx fr to op N N1 a_16 tk.length r0) (μ := fun x => x.2.2.2.2.2.2.2) ?_ (_, [r1.1], fun _ => a1, N1 + 5, r1.2.2, true, r1.2.1, 9) ⟨q2, hpx2, hF5, hs5, hSK, fun j hj => ⟨N, N1, Nat.le_refl _, by (try dsimp only); omega, Or.inl (Nat.le_refl _), ?_⟩, Nat.le_refl _, (by decide : 0 < 1), (by decide : 1 + 9 ≤ 10), l1, fun _ => hn⟩
    rotate_left
    · have hj0 : j = 0 := Nat.lt_one_iff.mp hj
      subst hj0
      exact aR_into hRz (Nat.le_refl _) (Nat.le_refl _) (Nat.le_refl _) (fun i e1 e2 => hoz _ (fun q => by have := q.2.1; dsimp only at this; omega))
    intro x hi ih
    obtain ⟨G, fs, ad, N2, tkc, t, dd, n⟩ := x
    obtain ⟨w1, w2, w3, w4, w5, w6, w7, w8, w9, w11, w12⟩ := hi
    dsimp only at w1 w2 w3 w4 w5 w6 w7 w8 w9 w11 w12 ih ⊢
    obtain ⟨n, rfl⟩ : ∃ n', n = n' + 1 := by
      cases n with
      | zero => cases w1
      | succ n => exact ⟨n, rfl⟩
    have hl8 : r0.2.2.length + (if t then 2 else 0) ≤ tkc.length := by
      cases t with
      | false => exact pMoreW_len hLP _ _ _ _ _ w1
      | true => exact pMoreW_len3 hLP (w12 rfl) w1
    have hE5 := hE.pf w2
    have hz5 := hz.pf w2
    have hF5 := w3
    have hs5 := w4
    obtain ⟨fs5, hc5⟩ := hs5.cell
    refine x_aloadr_n hC dX5_test_26 (q := 27) rfl rfl ?_
    refine x_ldcS hC (xk_11 h0 hS) dX5_test_27 (q := 29) rfl ?_
    refine x_callV hC xv_X5_106 dX5_test_29 (q := 32) rfl rfl (m_X5_takes h0 _ hS hE5 hs5 11 rfl (cz := 0) (sz := 0) sR_t) (nn := (60, 0)) hc5 rfl rfl (Nat.le_of_ble_eq_true rfl) ⟨(by (try dsimp only); omega), (by (try dsimp only); omega)⟩ ⟨by cases t <;> (dsimp only [fRoom]; simp only [if_true, Bool.false_eq_true, if_false] at hl8 ⊢; omega), by cases t <;> (dsimp only [fRoom]; simp only [if_true, Bool.false_eq_true, if_false] at hl8 ⊢; omega)⟩ (fun v g1 hp => ?_)
    obtain ⟨rfl, hx6, hs6⟩ := hp
    have hE6 := hE5.px hx6
    have hz6 := hz5.pf (PF.px (N := 0) hx6)
    have hF6 := hF5.px hx6
    obtain ⟨fs6, hc6⟩ := hs6.cell
    refine x_if_eq hC dX5_test_32 (q := 35) rfl (tgt := 50) rfl (fun h32 => ?_) (fun h32 => ?_)
    · have hno : hdW tkc (cW 11) = false := by
        cases hb : hdW tkc (cW 11) with
        | false => rfl
        | true => rw [hb] at h32; exact absurd h32 (by decide)
      have w1b := w1
      unfold pMoreW at w1b
      rw [if_neg (by rw [hno]; decide)] at w1b
      have ht : t = false := by
        cases t with
        | false => rfl
        | true => rw [w12 rfl] at hno; cases hno
      subst ht
      cases w1b
      rw [hno] at hs6
      refine x_aloadr_n hC dX5_test_50 (q := 51) rfl rfl ?_
      exact x_aret hC hr (Or.inl ⟨_, rfl⟩) (Or.inr ⟨_, rfl⟩) dX5_test_51 (by dsimp only [fRoom]; simp only [Bool.false_eq_true, if_false] at hl8 ⊢; omega) (by dsimp only [fRoom]; simp only [Bool.false_eq_true, if_false] at hl8 ⊢; omega) ⟨a_16, N2, rfl, by omega, w2.trans (PF.px hx6) (by omega), hF6, hs6, (w5.ext (fun j e1 e2 => hx6 _ (n_fst rfl) (n_fst rfl) (n_fst rfl))).aR (fun j hj => by
            obtain ⟨lo, hi, v1, v2, v3, v4⟩ := w6 j hj
            exact ⟨lo, hi, v1, v2, aR_into v4 (Nat.le_refl _) (Nat.le_refl _) (Nat.le_refl _) (fun i e1 e2 => hx6 _ (n_fst rfl) (n_fst rfl) (n_fst rfl))⟩) (by omega) (by omega) rfl (by omega) (by first | exact Or.inl rfl | exact Or.inr rfl)⟩
    have hys : hdW tkc (cW 11) = true := by
      cases hb : hdW tkc (cW 11) with
      | true => rfl
      | false => rw [hb] at h32; exact absurd rfl h32
    have w1b := w1
    unfold pMoreW at w1b
    rw [if_pos hys] at w1b
    obtain ⟨r2, q3, w1c⟩ := bind_is w1b
    have htk1 := hdW_is hys
    have l3 := hLP _ _ q3
    have l7 := pMoreW_len hLP _ _ _ _ _ w1c
    have l4 : tkc.length = tkc.tail.length + 1 := by
      have := congrArg List.length htk1
      exact this
    rw [hys] at hs6
    obtain ⟨tl6, dl6, mc6, fa6, hn6, hl6, hd6, hfa6⟩ := w5.ext (fun j e1 e2 => hx6 _ (n_fst rfl) (n_fst rfl) (n_fst rfl))
    refine x_aloadr_n hC dX5_test_35 (q := 36) rfl rfl ?_
    refine x_get hC xf_X5_137_12 dX5_test_36 (q := 39) rfl (n := (200, N1)) hn6 rfl ?_
    refine x_aloadr_n hC dX5_test_39 (q := 40) rfl rfl ?_
    refine x_callV hC xv_X5_126 dX5_test_40 (q := 43) rfl rfl (hP _ sc Z tx A V B d0 op N2 _ tkc.tail r2 hE6 hS hz6 hs6 hF6 hop q3) (nn := (60, 0)) hc6 rfl rfl (Nat.le_of_ble_eq_true rfl) ⟨(by (try dsimp only); omega), (by (try dsimp only); omega)⟩ ⟨by cases t <;> (dsimp only [fRoom]; simp only [if_true, Bool.false_eq_true, if_false] at hl8 ⊢; omega), by cases t <;> (dsimp only [fRoom]; simp only [if_true, Bool.false_eq_true, if_false] at hl8 ⊢; omega)⟩ (fun v gS hp => ?_)
    obtain ⟨a2, N3, rfl, hN3, hpf3, hF3, hs10, hR3⟩ := hp
    have hpf4 := (PF.px (N := N2) hx6).trans hpf3 (Nat.le_refl N2)
    have hpf5 := w2.trans hpf4 (by omega)
    have hn9 := (hpf3.at (i := N1) (by omega)).trans hn6
    have hl9 := (hpf3.at (i := N1 + 1) (by omega)).trans hl6
    have hd9 := (hpf3.at (i := N1 + 2) (by omega)).trans hd6
    obtain ⟨k3, x3, hk3, hk4, he3, hx3⟩ := aR_cell hR3
    refine x_callV hC xv_X5_141 dX5_test_43 (q := 46) rfl rfl (m_J3_add_A h0 _ (n := (200, N1 + 1)) (nd := (200, N1 + 2)) (n2 := (200, k3)) rfl rfl rfl (n_snd (by omega)) (n_snd (by omega)) hl9 hd9 he3 hx3 (by omega) (by decide)) (nn := (200, N1 + 1)) hl9 rfl rfl (Nat.le_of_ble_eq_true rfl) ⟨(by (try dsimp only); omega), (by (try dsimp only); omega)⟩ ⟨by cases t <;> (dsimp only [fRoom]; simp only [if_true, Bool.false_eq_true, if_false] at hl8 ⊢; omega), by cases t <;> (dsimp only [fRoom]; simp only [if_true, Bool.false_eq_true, if_false] at hl8 ⊢; omega)⟩ (fun v g1 hp => ?_)
    obtain ⟨rfl, hg1⟩ := hp
    replace hg1 := hg1.symm
    subst hg1
    refine x_pop hC dX5_test_46 (q := 47) rfl rfl ?_
    refine x_goto hC dX5_test_47 (tgt := 26) rfl ?_
    obtain ⟨gq, hgq⟩ : ∃ gq, gq = xu (xu gS (200, N1 + 2) (some (dl6, xAr (.object "java/lang/Object") 10 (va_up fa6 fs.length (some a2))))) (200, N1 + 1) (some (tl6, xO 21 [.int (mc6 + 1), .ref dl6, .int (nI (fs.length + 1))])) := ⟨_, rfl⟩
    refine x_geq hgq.symm ?_
    have hq1 : PF N g gq := by rw [hgq]; exact (hpf5.u (i := N1 + 2) (by omega) _).u (i := N1 + 1) (by omega) _
    have hq2 : FR N3 gq := by rw [hgq]; exact (hF3.u (i := N1 + 2) (by omega) _).u (i := N1 + 1) (by omega) _
    have hq3 : PSt gq sc Z tx fr to op true r2.2.2 := by rw [hgq]; exact (hs10.u _).u _
    have hq4 : SK gq N1 a_16 (fs ++ [r2.1]).length 0 (fun j => if j = fs.length then a2 else ad j) := by
      rw [hgq, List.length_append]
      refine ⟨tl6, dl6, mc6 + 1, _, by rw [xu_ne (n_snd (by omega)), xu_ne (n_snd (by omega))]; exact hn9, xu_eq _ _ _, by rw [xu_ne (n_snd (by omega)), xu_eq], fun j hj => ?_⟩
      dsimp only
      by_cases e : j = fs.length
      · subst e; simp [va_up]
      · simp only [va_up, if_neg e]; exact hfa6 j (by simp at hj; omega)
    have hq5 : ∀ i, N1 + 5 ≤ i ∨ i < N1 + 1 → gq (200, i) = gS (200, i) := fun i hi => by rw [hgq, xu_ne (n_snd (by omega)), xu_ne (n_snd (by omega))]
    refine x_widen (k0 := 20 * (tk.length - r2.2.2.length - 1) + 14) (n0 := 5000 * (tk.length - r2.2.2.length - 1) + 280) (by
      cases t <;> (dsimp only [fRoom]; simp only [if_true, Bool.false_eq_true, if_false] at hl8 ⊢; omega)) (by
      cases t <;> (dsimp only [fRoom]; simp only [if_true, Bool.false_eq_true, if_false] at hl8 ⊢; omega)) ?_
    exact ih (gq, fs ++ [r2.1], fun j => if j = fs.length then a2 else ad j, N3, r2.2.2, false, max dd r2.2.1, n) ⟨w1c, hq1, hq2, hq3, hq4, fun j hj => by
      dsimp only at hj ⊢
      rw [List.length_append] at hj
      by_cases e : j = fs.length
      · subst e
        refine ⟨N2, N3, by omega, Nat.le_refl _, Or.inr (by omega), ?_⟩
        rw [if_pos rfl, gD_appr (Nat.le_refl _), Nat.sub_self]
        exact aR_into hR3 (Nat.le_refl _) (Nat.le_refl _) (by omega) (fun i e1 e2 => hq5 i (by omega))
      · have hj2 : j < fs.length := by simp at hj; omega
        obtain ⟨lo, hi, v1, v2, v3, v4⟩ := w6 j hj2
        refine ⟨lo, hi, v1, by omega, v3, ?_⟩
        rw [if_neg e, gD_app hj2]
        exact aR_into v4 (Nat.le_refl _) (Nat.le_refl _) (by omega) (fun i e1 e2 => (hq5 i (by omega)).trans (hpf4.at (by omega))), by dsimp only; omega, by dsimp only; rw [List.length_append]; exact Nat.succ_pos _, by dsimp only; rw [List.length_append]; simp only [List.length_singleton]; omega, by dsimp only; omega, fun q => by cases q⟩ (by dsimp only; omega)
  · exact absurd (show b01 true = 0 from h11) (by decide)

theorem c_X5_test {l : Launch} {s0 : State} {D : va_G} (h0 : x0 l s0 D) {lv fr to F Lo : Nat} {P : pP} (hP : cP l s0 D yX5_both cX5_both 3 "KilnBench$Test" true true F Lo 12 lv fr to P) (hLP : pLen P) (hF9 : 12 ≤ F) (hLo : 500 ≤ Lo) : cP l s0 D yX5_test cX5_test 3 "KilnBench$Test" true true (F + 1) (Lo + 30) 14 lv fr to (pSev (cW 11) 0 P) := by
  intro g sc Z tx A V B d0 op N sn tk r hE hS hz hq hF hop hp
  obtain ⟨r1, q1, ⟨hn, rfl⟩ | ⟨hn, q2⟩⟩ := pSev_is hp
  · exact m_X5_test_A h0 hP hLP g hE hS hz hF hq hop q1 hF9 hLo hn
  · exact m_X5_test_B h0 hP hLP g hE hS hz hF hq hop q1 hF9 hLo hn q2 (pMoreW_len3 hLP hn q2)

theorem cP.up {l : Launch} {s0 : State} {D : va_G} {y : MethodName} {cc : ByteArray} {L : Nat} {cn : String} {b e : Bool} {F Lo k lv fr to F' Lo' lv' : Nat} {p : pP} (h : cP l s0 D y cc L cn b e F Lo k lv fr to p) (h1 : F ≤ F') (h2 : Lo ≤ Lo') (h3 : lv ≤ lv') : cP l s0 D y cc L cn b e F' Lo' k lv' fr to p := fun g sc Z tx A V B d0 op N sn tk r hE hS hz hq hF hop hp => (h g sc Z tx A V B d0 op N sn tk r hE hS hz hq hF (by omega) hp).room h1 (Nat.le_refl _) (Nat.le_refl _) h2
theorem cP.no {l : Launch} {s0 : State} {D : va_G} {y : MethodName} {cc : ByteArray} {L : Nat} {cn : String} {b e : Bool} {F Lo k lv fr to : Nat} : cP l s0 D y cc L cn b e F Lo k lv fr to pNo := fun g sc Z tx A V B d0 op N sn tk r hE hS hz hq hF hop hp => by cases hp
/-- a sum, by one more level -/
theorem c_sum_s {l : Launch} {s0 : State} {D : va_G} (h0 : x0 l s0 D) {lv fr to F Lo : Nat} {S T : pP} (hPS : cP l s0 D yX5_sum_2 cX5_sum_2 4 "KilnBench$Sum" false true F Lo 6 lv fr to S) (hLS : pLen S) (hPT : cP l s0 D yX5_test cX5_test 3 "KilnBench$Test" true true F Lo 14 lv fr to T) (hLT : pLen T) (hfr : fr < 100) (hto : to < 100) (hF9 : 12 ≤ F) (hLo : 500 ≤ Lo) : cP l s0 D yX5_sum_2 cX5_sum_2 4 "KilnBench$Sum" false true (F + 5) (Lo + 150) 6 (lv + 1) fr to (pSum fr to S T) :=
  c_X5_sum h0 (c_X5_product h0 (c_X5_part h0 hPS hLS hPT hLT hfr hto hF9 hLo) (Nat.le_refl _) (pLen_Part hLS hLT) (by omega) (by omega)) (Nat.le_refl _) (pLen_Ch (pLen_Part hLS hLT)) (by omega) (by omega)
theorem c_test_s {l : Launch} {s0 : State} {D : va_G} (h0 : x0 l s0 D) {lv fr to F Lo : Nat} {S : pP} (hPS : cP l s0 D yX5_sum_2 cX5_sum_2 4 "KilnBench$Sum" false true F Lo 6 lv fr to S) (hLS : pLen S) (hF9 : 12 ≤ F) (hLo : 500 ≤ Lo) : cP l s0 D yX5_test cX5_test 3 "KilnBench$Test" true true (F + 5) (Lo + 150) 14 lv fr to (pTest S) :=
  c_X5_test h0 (c_X5_both h0 (c_X5_fact h0 hPS hLS hF9 hLo) (pLen_Fact hLS) (by omega) (by omega)) (pLen_Sev (pLen_Fact hLS)) (by omega) (by omega)
theorem c_Lv {l : Launch} {s0 : State} {D : va_G} (h0 : x0 l s0 D) {fr to : Nat} (hfr : fr < 100) (hto : to < 100) : ∀ n, cP l s0 D yX5_sum_2 cX5_sum_2 4 "KilnBench$Sum" false true (17 + 10 * n) (650 + 300 * n) 6 (n + 1) fr to (pLv fr to n).1 ∧ cP l s0 D yX5_test cX5_test 3 "KilnBench$Test" true true (22 + 10 * n) (800 + 300 * n) 14 (n + 1) fr to (pLv fr to n).2 := by
  intro n
  induction n with
  | zero =>
    have h1 := c_sum_s h0 (lv := 0) (F := 12) (Lo := 500) cP.no pLen_No cP.no pLen_No hfr hto (Nat.le_refl _) (Nat.le_refl _)
    exact ⟨h1, c_test_s h0 h1 (pLen_Sum pLen_No pLen_No) (by decide) (by decide)⟩
  | succ n ih =>
    have hl := pLen_Lv fr to n
    have h1 := c_sum_s h0 (F := 22 + 10 * n) (Lo := 800 + 300 * n) (ih.1.up (by omega) (by omega) (Nat.le_refl _)) hl.1 ih.2 hl.2 hfr hto (by omega) (by omega)
    exact ⟨h1.up (by omega) (by omega) (Nat.le_refl _), (c_test_s h0 h1 (pLen_Sum hl.1 hl.2) (by omega) (by omega)).up (by omega) (by omega) (Nat.le_refl _)⟩
