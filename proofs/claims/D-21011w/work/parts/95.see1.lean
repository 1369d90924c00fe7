/-! the scanner sees a token -/
theorem c_len (i : Nat) (hi : Nat.blt i 86 = true) : (cW i).length < 2 ^ 31 := by
  have : ∀ i, i < 86 → (cW i).length < 2 ^ 31 := by decide +kernel
  exact this i (Nat.le_of_ble_eq_true hi)
theorem nar_c {c : Nat} (h : c < 128) : narrow .char (.int (nI c)) = .int (nI c) := by
  have := sc_nar (nI c)
  rwa [(sb_all c h).2.2] at this
theorem fit_c {c : Nat} (h : c < 128) : fits .char (.int (nI c)) = true := by
  have : ∀ c, c < 128 → fits .char (.int (nI c)) = true := by decide +kernel
  exact this c h
theorem sN_take {w : List Nat} {i : Nat} (hi : i < w.length) : sN (w.take (i + 1)) = 10 * sN (w.take i) + (w.getD i 0 - 48) := by
  unfold sN
  rw [List.take_succ, List.foldl_append, List.getElem?_eq_getElem hi, List.getD_eq_getElem?_getD, List.getElem?_eq_getElem hi]
  rfl
theorem sN_lt : ∀ (w : List Nat), w.all chD = true → sN w < 10 ^ w.length := by
  intro w
  have : ∀ (w : List Nat) (n k : Nat), w.all chD = true → n < 10 ^ k → w.foldl (fun n c => 10 * n + (c - 48)) n < 10 ^ (k + w.length) := by
    intro w
    induction w with
    | nil => intro n k _ h; exact h
    | cons c w ih =>
      intro n k h hn
      simp only [List.all_cons, Bool.and_eq_true] at h
      have hc := h.1
      unfold chD at hc
      rw [Bool.and_eq_true, Nat.ble_eq, Nat.ble_eq] at hc
      have := ih (10 * n + (c - 48)) (k + 1) h.2 (by rw [Nat.pow_succ]; omega)
      rw [List.length_cons, show k + (w.length + 1) = k + 1 + w.length by omega]
      exact this
  intro h
  have := this w 0 0 h (by decide)
  rwa [Nat.zero_add] at this
theorem dg_step {n c : Nat} (hc : 48 ≤ c) (hc2 : c < 128) (hn : n < 100000) : (10 : Int32) * nI n + nI c - 48 = nI (10 * n + (c - 48)) := by
  rw [← iI_nat, ← iI_nat, ← iI_nat, show (10 : Int32) = iI 10 from rfl, show (48 : Int32) = iI 48 from rfl, iI_mul, iI_add, iI_sub]
  congr 1
  omega

set_option maxHeartbeats 4000000 in
set_option maxRecDepth 100000 in
theorem m_X2_digitsOf {l : Launch} {s0 : State} {D : va_G} (h0 : x0 l s0 D) (g : xG) {n nv : xN} {a va : Nat} {hr : List Value} {w : List Nat} (hs : g n = some (a, xO 23 (.ref va :: .int 0 :: hr))) (hv : g nv = some (va, xAi .byte w.length (sL w))) (hA : sA w) (hD : w.all chD = true) (hl : w.length ≤ 4) : xMet l s0 D yX2_digitsOf cX2_digitsOf 3 (some .int) (xr 5 0 0 110) [.ref a] g (fun r g1 => r = some (.int (nI (sN w))) ∧ g1 = g) := by
  refine xMet.of h0 (by decide +kernel) rfl ?_
  intro zp ze zs zm za zb zf zc hC hr hnm
  refine x_iconst hC dX2_digitsOf_0 (q := 1) rfl (v := (0)) (by decide) ?_
  refine x_istore_n hC dX2_digitsOf_1 (q := 2) rfl rfl ?_
  refine x_iconst hC dX2_digitsOf_2 (q := 3) rfl (v := (0)) (by decide) ?_
  refine x_istore_n hC dX2_digitsOf_3 (q := 4) rfl rfl ?_
  refine x_loop (S := (fun i : Nat => ((0 : Nat), (0 : Nat), g, ([some (.ref a), some (.int (nI (sN (w.take i)))), some (.int (nI i))] : xL), ([] : List Value)))) (Inv := fun i => i ≤ w.length) (μ := fun i => w.length - i) ?_ 0 (Nat.zero_le _)
  intro i hi ih
  dsimp only at hi ih ⊢
  refine x_iload_n hC dX2_digitsOf_4 (q := 5) rfl rfl ?_
  refine x_aloadr_n hC dX2_digitsOf_5 (q := 6) rfl rfl ?_
  refine x_callV hC xv_X2_99 dX2_digitsOf_6 (q := 9) rfl rfl (m_J6_length h0 g hs hv (by omega)) (nn := n) hs rfl rfl (Nat.le_of_ble_eq_true rfl) ⟨(Nat.le_of_ble_eq_true rfl), (Nat.le_of_ble_eq_true rfl)⟩ ⟨(Nat.le_of_ble_eq_true rfl), (Nat.le_of_ble_eq_true rfl)⟩ (fun v g1 hp => ?_)
  obtain ⟨rfl, hg1⟩ := hp
  replace hg1 := hg1.symm
  subst hg1
  refine x_icmp_ge hC dX2_digitsOf_9 (q := 12) rfl (tgt := 32) rfl (fun h9 => ?_) (fun h9 => ?_)
  · have hj3 : i = w.length := by
      have := (nI_leI (by omega) (by omega)).mp (show nI w.length ≤ nI i from h9)
      omega
    refine x_iload_n hC dX2_digitsOf_32 (q := 33) rfl rfl ?_
    exact x_iret hC hr dX2_digitsOf_33 (Nat.le_of_ble_eq_true rfl) (Nat.le_of_ble_eq_true rfl) ⟨by rw [hj3, List.take_length], rfl⟩
  have hj2 : i < w.length := Nat.lt_of_not_le (fun q => h9 (show nI w.length ≤ nI i from nI_le q (by omega)))
  refine x_bipush hC dX2_digitsOf_12 (q := 14) rfl (v := (10)) (by decide) ?_
  refine x_iload_n hC dX2_digitsOf_14 (q := 15) rfl rfl ?_
  refine x_imul hC dX2_digitsOf_15 (q := 16) rfl ?_
  refine x_aloadr_n hC dX2_digitsOf_16 (q := 17) rfl rfl ?_
  refine x_iload_n hC dX2_digitsOf_17 (q := 18) rfl rfl ?_
  refine x_callV hC xv_X2_103 dX2_digitsOf_18 (q := 21) rfl rfl (m_J6_charAt h0 g hs hv (by omega) i hj2) (nn := n) hs rfl rfl (Nat.le_of_ble_eq_true rfl) ⟨(Nat.le_of_ble_eq_true rfl), (Nat.le_of_ble_eq_true rfl)⟩ ⟨(Nat.le_of_ble_eq_true rfl), (Nat.le_of_ble_eq_true rfl)⟩ (fun v g1 hp => ?_)
  rw [show sL w i &&& 255 = nI (w.getD i 0) from (sb_all _ (hA i)).2.2] at hp
  obtain ⟨rfl, hg1⟩ := hp
  replace hg1 := hg1.symm
  subst hg1
  refine x_iadd hC dX2_digitsOf_21 (q := 22) rfl ?_
  refine x_bipush hC dX2_digitsOf_22 (q := 24) rfl (v := (48)) (by decide) ?_
  refine x_isub hC dX2_digitsOf_24 (q := 25) rfl ?_
  rw [show (10 : Int32) * nI (sN (w.take i)) + nI (w.getD i 0) - 48 = nI (sN (w.take (i + 1))) by
    have hc := all_getD hD hj2
    unfold chD at hc
    rw [Bool.and_eq_true, Nat.ble_eq, Nat.ble_eq] at hc
    have h5 : sN (w.take i) < 10 ^ (w.take i).length := sN_lt _ (by
      rw [List.all_eq_true] at hD ⊢
      exact fun x hx => hD x (List.mem_of_mem_take hx))
    have h6 : (10 : Nat) ^ (w.take i).length ≤ 10 ^ 4 := Nat.pow_le_pow_right (by decide) (by rw [List.length_take]; omega)
    rw [sN_take hj2]
    exact dg_step hc.1 (hA i) (by omega)]
  refine x_istore_n hC dX2_digitsOf_25 (q := 26) rfl rfl ?_
  refine x_iinc hC dX2_digitsOf_26 (q := 29) rfl rfl (v := nI (i + 1)) (nI_1 i) ?_
  refine x_goto hC dX2_digitsOf_29 (tgt := 4) rfl ?_
  exact ih (i + 1) (by (try dsimp only); omega) (by (try dsimp only); omega)

set_option maxHeartbeats 4000000 in
set_option maxRecDepth 100000 in
theorem m_X2_isOwn {l : Launch} {s0 : State} {D : va_G} (h0 : x0 l s0 D) (g : xG) {A V B : Nat → Nat} (hS : KS0 s0 A V B) (hK : KG g A V B) {n nv : xN} {a va : Nat} {hr : List Value} {w : List Nat} (hd : Nat.blt n.1 1000 = true) (hs : g n = some (a, xO 23 (.ref va :: .int 0 :: hr))) (hv : g nv = some (va, xAi .byte w.length (sL w))) (hA : sA w) (hl : w.length ≤ 6) (hno : ∀ k, k < 26 → cW (34 + k) ≠ w) : xMet l s0 D yX2_isOwn cX2_isOwn 2 (some .boolean) (xr 3 0 0 70) [.ref a] g (fun r g1 => r = some (.int 0) ∧ g1 = g) := by
  refine xMet.of h0 (by decide +kernel) rfl ?_
  intro zp ze zs zm za zb zf zc hC hr hnm
  refine x_iconst hC dX2_isOwn_0 (q := 1) rfl (v := (0)) (by decide) ?_
  refine x_istore_n hC dX2_isOwn_1 (q := 2) rfl rfl ?_
  refine x_loop (S := (fun i : Nat => ((0 : Nat), (0 : Nat), g, ([some (.ref a), some (.int (nI i))] : xL), ([] : List Value)))) (Inv := fun i => i ≤ 26) (μ := fun i => 26 - i) ?_ 0 (Nat.zero_le _)
  intro i hi ih
  dsimp only at hi ih ⊢
  refine x_iload_n hC dX2_isOwn_2 (q := 3) rfl rfl ?_
  refine x_gets hC ((hS.2 0 (by decide)).1) (Or.inl q509) dX2_isOwn_3 (q := 6) rfl ?_
  refine x_alen hC dX2_isOwn_6 (q := 7) rfl (n := (1003, 0)) (hK.a 0 rfl) ?_
  refine x_icmp_ge hC dX2_isOwn_7 (q := 10) rfl (tgt := 30) rfl (fun h7 => ?_) (fun h7 => ?_)
  · refine x_iconst hC dX2_isOwn_30 (q := 31) rfl (v := (0)) (by decide) ?_
    exact x_zret hC hr rfl dX2_isOwn_31 (Nat.le_of_ble_eq_true rfl) (Nat.le_of_ble_eq_true rfl) ⟨rfl, rfl⟩
  have hj2 : i < 26 := Nat.lt_of_not_le (fun q => h7 (show nI 26 ≤ nI i from nI_le q (by omega)))
  have hb : Nat.blt (34 + i) 86 = true := Nat.ble_eq_true_of_le (by omega)
  refine x_ne hd (k := (1001, 34 + i)) rfl rfl hs (hK.s _ hb) (fun hab => ?_)
  refine x_gets hC ((hS.2 0 (by decide)).1) (Or.inl q509) dX2_isOwn_10 (q := 13) rfl ?_
  refine x_iload_n hC dX2_isOwn_13 (q := 14) rfl rfl ?_
  refine x_aald hC dX2_isOwn_14 (q := 15) rfl (n := (1003, 0)) (hK.a 0 rfl) (j := i) rfl hj2 (by decide) rfl ?_
  refine x_aloadr_n hC dX2_isOwn_15 (q := 16) rfl rfl ?_
  refine x_callV hC xv_X2_59 dX2_isOwn_16 (q := 19) rfl rfl (m_J6_equals h0 g (hK.s _ hb) (hK.v _ hb) hs hv (c_len _ hb) (by omega) (fun q => absurd q.symm hab)) (nn := (1001, 34 + i)) (hK.s _ hb) rfl rfl (Nat.le_of_ble_eq_true rfl) ⟨(Nat.le_of_ble_eq_true rfl), (Nat.le_of_ble_eq_true rfl)⟩ ⟨(Nat.le_of_ble_eq_true rfl), (Nat.le_of_ble_eq_true rfl)⟩ (fun v g1 hp => ?_)
  rw [if_neg (fun q => hno i hj2 ((sEqs_sL (sA_c _ hb) hA).mp q))] at hp
  obtain ⟨rfl, hg1⟩ := hp
  replace hg1 := hg1.symm
  subst hg1
  refine x_if_eq hC dX2_isOwn_19 (q := 22) rfl (tgt := 24) rfl (fun h19 => ?_) (fun h19 => ?_)
  · refine x_iinc hC dX2_isOwn_24 (q := 27) rfl rfl (v := nI (i + 1)) (nI_1 i) ?_
    refine x_goto hC dX2_isOwn_27 (tgt := 2) rfl ?_
    exact ih (i + 1) (by (try dsimp only); omega) (by (try dsimp only); omega)
  · exact absurd rfl h19

set_option maxHeartbeats 4000000 in
set_option maxRecDepth 100000 in
theorem m_X5_see_1 {l : Launch} {s0 : State} {D : va_G} (h0 : x0 l s0 D) (g : xG) {sc : Nat} {Z : Nat × Nat × Nat} {fr to at0 : Nat} {bd : Int} {pl nb wh op sg : Nat} {wd : Option Nat} (hq : g (60, 0) = (some (sc, scO Z fr to (at0) bd pl nb wh op 1 sg wd))) : xMet l s0 D yX5_see cX5_see 4 (some .int) (xr 0 0 0 0) [.ref sc] g (fun r g1 => r = some (.int (nI wh)) ∧ g1 = g) := by
  refine xMet.of h0 (by decide +kernel) rfl ?_
  intro zp ze zs zm za zb zf zc hC hr hnm
  refine x_aloadr_n hC dX5_see_0 (q := 1) rfl rfl ?_
  refine x_get hC xf_X5_29_4 dX5_see_1 (q := 4) rfl (n := (60, 0)) hq rfl ?_
  refine x_if_eq hC dX5_see_4 (q := 7) rfl (tgt := 12) rfl (fun h4 => ?_) (fun h4 => ?_)
  · exact absurd h4 (by decide)
  refine x_aloadr_n hC dX5_see_7 (q := 8) rfl rfl ?_
  refine x_get hC xf_X5_33_4 dX5_see_8 (q := 11) rfl (n := (60, 0)) hq rfl ?_
  exact x_iret hC hr dX5_see_11 (Nat.le_of_ble_eq_true rfl) (Nat.le_of_ble_eq_true rfl) ⟨rfl, rfl⟩

set_option maxHeartbeats 4000000 in
set_option maxRecDepth 100000 in
theorem m_X5_see_e {l : Launch} {s0 : State} {D : va_G} (h0 : x0 l s0 D) (g : xG) {sc : Nat} {Z : Nat × Nat × Nat} {tx : List Nat} {A V B : Nat → Nat} (hE : PE g Z tx A V B) {fr to at0 : Nat} {bd : Int} {pl nb wh op sg : Nat} {wd : Option Nat} {sp : List Nat} (hq : g (60, 0) = (some (sc, scO Z fr to (at0) bd pl nb wh op 0 sg wd))) (hat : at0 ≤ tx.length) (hL : tx.drop at0 = sp) (hsp : sp.all chS = true) : xMet l s0 D yX5_see cX5_see 4 (some .int) (xr 0 0 0 0) [.ref sc] g (fun r g1 => r = some (.int 0) ∧ g1 = (xu g (60, 0) (some (sc, scO Z fr to (tx.length) bd tx.length nb 0 op 1 sg wd)))) := by
  refine xMet.of h0 (by decide +kernel) rfl ?_
  intro zp ze zs zm za zb zf zc hC hr hnm
  obtain ⟨⟨rest, ta, T, hO, hT, hTx⟩, hZ, hsz, hA, hK⟩ := hE
  have hlen := drop_len hL hat
  refine x_geq (g' := (xu g (60, 0) (some (sc, scO Z fr to (at0) bd pl nb wh op 0 sg wd)))) (xu_self hq).symm ?_
  refine x_aloadr_n hC dX5_see_0 (q := 1) rfl rfl ?_
  refine x_get hC xf_X5_29_4 dX5_see_1 (q := 4) rfl (n := (60, 0)) (xu_eq _ _ _) rfl ?_
  refine x_if_eq hC dX5_see_4 (q := 7) rfl (tgt := 12) rfl (fun h4 => ?_) (fun h4 => ?_)
  · refine x_loop (S := (fun i : Nat => ((0 : Nat), (0 : Nat), (xu g (60, 0) (some (sc, scO Z fr to (at0 + i) bd pl nb wh op 0 sg wd))), ([some (.ref sc), none, none, none] : xL), ([] : List Value)))) (Inv := fun i => i ≤ sp.length) (μ := fun i => sp.length - i) ?_ 0 (Nat.zero_le _)
    intro i hi ih
    dsimp only at hi ih ⊢
    refine x_aloadr_n hC dX5_see_12 (q := 13) rfl rfl ?_
    refine x_get hC xf_X5_36_4 dX5_see_13 (q := 16) rfl (n := (60, 0)) (xu_eq _ _ _) rfl ?_
    refine x_aloadr_n hC dX5_see_16 (q := 17) rfl rfl ?_
    refine x_get hC xf_X5_26_4 dX5_see_17 (q := 20) rfl (n := (60, 0)) (xu_eq _ _ _) rfl ?_
    refine x_icmp_ge hC dX5_see_20 (q := 23) rfl (tgt := 70) rfl (fun h20 => ?_) (fun h20 => ?_)
    · have hj3 : i = sp.length := by
        have := (nI_leI (by omega) (by omega)).mp (show nI Z.1 ≤ nI (at0 + i) from h20)
        omega
      subst hj3
      refine x_aloadr_n hC dX5_see_70 (q := 71) rfl rfl ?_
      refine x_aloadr_n hC dX5_see_71 (q := 72) rfl rfl ?_
      refine x_get hC xf_X5_36_4 dX5_see_72 (q := 75) rfl (n := (60, 0)) (xu_eq _ _ _) rfl ?_
      refine x_put hC (n := (60, 0)) xf_X5_43_4 xd_4 rfl dX5_see_75 (q := 78) rfl (xu_eq _ _ _) rfl rfl rfl ?_
      rw [xu_xu]
      refine x_aloadr_n hC dX5_see_78 (q := 79) rfl rfl ?_
      refine x_iconst hC dX5_see_79 (q := 80) rfl (v := (1)) (by decide) ?_
      refine x_put hC (n := (60, 0)) xf_X5_29_4 xd_4 rfl dX5_see_80 (q := 83) rfl (xu_eq _ _ _) rfl rfl rfl ?_
      rw [xu_xu]
      refine x_aloadr_n hC dX5_see_83 (q := 84) rfl rfl ?_
      refine x_iconst hC dX5_see_84 (q := 85) rfl (v := (0)) (by decide) ?_
      refine x_put hC (n := (60, 0)) xf_X5_33_4 xd_4 rfl dX5_see_85 (q := 88) rfl (xu_eq _ _ _) rfl rfl rfl ?_
      rw [xu_xu]
      refine x_aloadr_n hC dX5_see_88 (q := 89) rfl rfl ?_
      refine x_get hC xf_X5_36_4 dX5_see_89 (q := 92) rfl (n := (60, 0)) (xu_eq _ _ _) rfl ?_
      refine x_aloadr_n hC dX5_see_92 (q := 93) rfl rfl ?_
      refine x_get hC xf_X5_26_4 dX5_see_93 (q := 96) rfl (n := (60, 0)) (xu_eq _ _ _) rfl ?_
      refine x_icmp_ne hC dX5_see_96 (q := 99) rfl (tgt := 104) rfl (fun h96 => ?_) (fun h96 => ?_)
      · exact absurd (show nI (at0 + sp.length) = nI Z.1 by rw [hZ, hlen]) h96
      refine x_aloadr_n hC dX5_see_99 (q := 100) rfl rfl ?_
      refine x_get hC xf_X5_33_4 dX5_see_100 (q := 103) rfl (n := (60, 0)) (xu_eq _ _ _) rfl ?_
      exact x_iret hC hr dX5_see_103 (Nat.le_of_ble_eq_true rfl) (Nat.le_of_ble_eq_true rfl) ⟨rfl, by rw [← hlen]; rfl⟩
    have hj2 : i < sp.length := by
      have := Nat.lt_of_not_le (fun q => h20 (show nI Z.1 ≤ nI (at0 + i) from nI_le q (by omega)))
      omega
    have hx := (chS_iff _).mp (all_getD hsp hj2)
    have hx8 : sp.getD i 0 < 128 := by rw [← drop_at hL i]; exact hA _
    refine x_aloadr_n hC dX5_see_23 (q := 24) rfl rfl ?_
    refine x_get hC xf_X5_3_4 dX5_see_24 (q := 27) rfl (n := (60, 0)) (xu_eq _ _ _) rfl ?_
    refine x_get hC xf_X5_39_1 dX5_see_27 (q := 30) rfl (n := (0, 0)) (by rw [xu_ne (by decide)]; exact hO) rfl ?_
    refine x_aloadr_n hC dX5_see_30 (q := 31) rfl rfl ?_
    refine x_get hC xf_X5_36_4 dX5_see_31 (q := 34) rfl (n := (60, 0)) (xu_eq _ _ _) rfl ?_
    refine x_cald hC dX5_see_34 (q := 35) rfl (n := (1, 0)) (by rw [xu_ne (by decide)]; exact hT) (j := at0 + i) rfl (by omega) (by decide) ?_
    rw [hTx _ (by omega), drop_at hL i]
    refine x_bipush hC dX5_see_35 (q := 37) rfl (v := (32)) (by decide) ?_
    refine x_icmp_eq hC dX5_see_37 (q := 40) rfl (tgt := 57) rfl (fun h37 => ?_) (fun h37 => ?_)
    · refine x_aloadr_n hC dX5_see_57 (q := 58) rfl rfl ?_
      refine x_dup hC dX5_see_58 (q := 59) rfl rfl ?_
      refine x_get hC xf_X5_36_4 dX5_see_59 (q := 62) rfl (n := (60, 0)) (xu_eq _ _ _) rfl ?_
      refine x_iconst hC dX5_see_62 (q := 63) rfl (v := (1)) (by decide) ?_
      refine x_iadd hC dX5_see_63 (q := 64) rfl ?_
      rw [nI_1]
      refine x_put hC (n := (60, 0)) xf_X5_36_4 xd_4 rfl dX5_see_64 (q := 67) rfl (xu_eq _ _ _) rfl rfl rfl ?_
      rw [xu_xu]
      refine x_goto hC dX5_see_67 (tgt := 12) rfl ?_
      exact ih (i + 1) (by (try dsimp only); omega) (by (try dsimp only); omega)
    refine x_aloadr_n hC dX5_see_40 (q := 41) rfl rfl ?_
    refine x_get hC xf_X5_3_4 dX5_see_41 (q := 44) rfl (n := (60, 0)) (xu_eq _ _ _) rfl ?_
    refine x_get hC xf_X5_39_1 dX5_see_44 (q := 47) rfl (n := (0, 0)) (by rw [xu_ne (by decide)]; exact hO) rfl ?_
    refine x_aloadr_n hC dX5_see_47 (q := 48) rfl rfl ?_
    refine x_get hC xf_X5_36_4 dX5_see_48 (q := 51) rfl (n := (60, 0)) (xu_eq _ _ _) rfl ?_
    refine x_cald hC dX5_see_51 (q := 52) rfl (n := (1, 0)) (by rw [xu_ne (by decide)]; exact hT) (j := at0 + i) rfl (by omega) (by decide) ?_
    rw [hTx _ (by omega), drop_at hL i]
    refine x_bipush hC dX5_see_52 (q := 54) rfl (v := (10)) (by decide) ?_
    refine x_icmp_ne hC dX5_see_54 (q := 57) rfl (tgt := 70) rfl (fun h54 => ?_) (fun h54 => ?_)
    · exact absurd ((nI_10 hx8).mpr (hx.resolve_left (fun q => h37 ((nI_32 hx8).mpr q)))) h54
    refine x_aloadr_n hC dX5_see_57 (q := 58) rfl rfl ?_
    refine x_dup hC dX5_see_58 (q := 59) rfl rfl ?_
    refine x_get hC xf_X5_36_4 dX5_see_59 (q := 62) rfl (n := (60, 0)) (xu_eq _ _ _) rfl ?_
    refine x_iconst hC dX5_see_62 (q := 63) rfl (v := (1)) (by decide) ?_
    refine x_iadd hC dX5_see_63 (q := 64) rfl ?_
    rw [nI_1]
    refine x_put hC (n := (60, 0)) xf_X5_36_4 xd_4 rfl dX5_see_64 (q := 67) rfl (xu_eq _ _ _) rfl rfl rfl ?_
    rw [xu_xu]
    refine x_goto hC dX5_see_67 (tgt := 12) rfl ?_
    exact ih (i + 1) (by (try dsimp only); omega) (by (try dsimp only); omega)
  · exact absurd rfl h4

set_option maxHeartbeats 4000000 in
set_option maxRecDepth 100000 in
theorem m_X5_see_s {l : Launch} {s0 : State} {D : va_G} (h0 : x0 l s0 D) (g : xG) {sc : Nat} {Z : Nat × Nat × Nat} {tx : List Nat} {A V B : Nat → Nat} (hE : PE g Z tx A V B) {fr to at0 : Nat} {bd : Int} {pl nb wh op sg : Nat} {wd : Option Nat} {sp R : List Nat} {c : Nat} (hq : g (60, 0) = (some (sc, scO Z fr to (at0) bd pl nb wh op 0 sg wd))) (hat : at0 ≤ tx.length) (hL : tx.drop at0 = sp ++ c :: R) (hsp : sp.all chS = true) (hcS : chS c = false) (hcL : chL c = false) (hcD : chD c = false) : xMet l s0 D yX5_see cX5_see 4 (some .int) (xr 1 0 0 40) [.ref sc] g (fun r g1 => r = some (.int 3) ∧ g1 = (xu g (60, 0) (some (sc, scO Z fr to (at0 + sp.length + 1) bd (at0 + sp.length) nb 3 op 1 c wd)))) := by
  refine xMet.of h0 (by decide +kernel) rfl ?_
  intro zp ze zs zm za zb zf zc hC hr hnm
  obtain ⟨⟨rest, ta, T, hO, hT, hTx⟩, hZ, hsz, hA, hK⟩ := hE
  have hlen := drop_len hL hat
  refine x_geq (g' := (xu g (60, 0) (some (sc, scO Z fr to (at0) bd pl nb wh op 0 sg wd)))) (xu_self hq).symm ?_
  refine x_aloadr_n hC dX5_see_0 (q := 1) rfl rfl ?_
  refine x_get hC xf_X5_29_4 dX5_see_1 (q := 4) rfl (n := (60, 0)) (xu_eq _ _ _) rfl ?_
  refine x_if_eq hC dX5_see_4 (q := 7) rfl (tgt := 12) rfl (fun h4 => ?_) (fun h4 => ?_)
  · refine x_loop (S := (fun i : Nat => ((0 : Nat), (0 : Nat), (xu g (60, 0) (some (sc, scO Z fr to (at0 + i) bd pl nb wh op 0 sg wd))), ([some (.ref sc), none, none, none] : xL), ([] : List Value)))) (Inv := fun i => i ≤ sp.length) (μ := fun i => sp.length - i) ?_ 0 (Nat.zero_le _)
    intro i hi ih
    dsimp only at hi ih ⊢
    refine x_aloadr_n hC dX5_see_12 (q := 13) rfl rfl ?_
    refine x_get hC xf_X5_36_4 dX5_see_13 (q := 16) rfl (n := (60, 0)) (xu_eq _ _ _) rfl ?_
    refine x_aloadr_n hC dX5_see_16 (q := 17) rfl rfl ?_
    refine x_get hC xf_X5_26_4 dX5_see_17 (q := 20) rfl (n := (60, 0)) (xu_eq _ _ _) rfl ?_
    refine x_icmp_ge hC dX5_see_20 (q := 23) rfl (tgt := 70) rfl (fun h20 => ?_) (fun h20 => ?_)
    · exact absurd (show nI Z.1 ≤ nI (at0 + i) from h20) (nI_ge (by rw [List.length_append, List.length_cons] at hlen; omega) (by omega))
    have hlen2 := hlen
    rw [List.length_append, List.length_cons] at hlen2
    have hx8 : (sp ++ c :: R).getD i 0 < 128 := by rw [← drop_at hL i]; exact hA _
    have hcs := sp_at (c := c) (L := R) hsp hi
    have hc8 : c < 128 := by
      have := hA (at0 + sp.length)
      rw [drop_at hL, (sp_at hsp (Nat.le_refl _)).2 rfl] at this
      exact this
    refine x_aloadr_n hC dX5_see_23 (q := 24) rfl rfl ?_
    refine x_get hC xf_X5_3_4 dX5_see_24 (q := 27) rfl (n := (60, 0)) (xu_eq _ _ _) rfl ?_
    refine x_get hC xf_X5_39_1 dX5_see_27 (q := 30) rfl (n := (0, 0)) (by rw [xu_ne (by decide)]; exact hO) rfl ?_
    refine x_aloadr_n hC dX5_see_30 (q := 31) rfl rfl ?_
    refine x_get hC xf_X5_36_4 dX5_see_31 (q := 34) rfl (n := (60, 0)) (xu_eq _ _ _) rfl ?_
    refine x_cald hC dX5_see_34 (q := 35) rfl (n := (1, 0)) (by rw [xu_ne (by decide)]; exact hT) (j := at0 + i) rfl (by omega) (by decide) ?_
    rw [hTx _ (by omega), drop_at hL i]
    refine x_bipush hC dX5_see_35 (q := 37) rfl (v := (32)) (by decide) ?_
    refine x_icmp_eq hC dX5_see_37 (q := 40) rfl (tgt := 57) rfl (fun h37 => ?_) (fun h37 => ?_)
    · have hi2 : i < sp.length := by
        rcases Nat.lt_or_eq_of_le hi with e | e
        · exact e
        · have h32 := (nI_32 hx8).mp h37
          rw [hcs.2 e] at h32
          rw [h32] at hcS
          exact absurd hcS (by decide)
      refine x_aloadr_n hC dX5_see_57 (q := 58) rfl rfl ?_
      refine x_dup hC dX5_see_58 (q := 59) rfl rfl ?_
      refine x_get hC xf_X5_36_4 dX5_see_59 (q := 62) rfl (n := (60, 0)) (xu_eq _ _ _) rfl ?_
      refine x_iconst hC dX5_see_62 (q := 63) rfl (v := (1)) (by decide) ?_
      refine x_iadd hC dX5_see_63 (q := 64) rfl ?_
      rw [nI_1]
      refine x_put hC (n := (60, 0)) xf_X5_36_4 xd_4 rfl dX5_see_64 (q := 67) rfl (xu_eq _ _ _) rfl rfl rfl ?_
      rw [xu_xu]
      refine x_goto hC dX5_see_67 (tgt := 12) rfl ?_
      exact ih (i + 1) (by (try dsimp only); omega) (by (try dsimp only); omega)
    refine x_aloadr_n hC dX5_see_40 (q := 41) rfl rfl ?_
    refine x_get hC xf_X5_3_4 dX5_see_41 (q := 44) rfl (n := (60, 0)) (xu_eq _ _ _) rfl ?_
    refine x_get hC xf_X5_39_1 dX5_see_44 (q := 47) rfl (n := (0, 0)) (by rw [xu_ne (by decide)]; exact hO) rfl ?_
    refine x_aloadr_n hC dX5_see_47 (q := 48) rfl rfl ?_
    refine x_get hC xf_X5_36_4 dX5_see_48 (q := 51) rfl (n := (60, 0)) (xu_eq _ _ _) rfl ?_
    refine x_cald hC dX5_see_51 (q := 52) rfl (n := (1, 0)) (by rw [xu_ne (by decide)]; exact hT) (j := at0 + i) rfl (by omega) (by decide) ?_
    rw [hTx _ (by omega), drop_at hL i]
    refine x_bipush hC dX5_see_52 (q := 54) rfl (v := (10)) (by decide) ?_
    refine x_icmp_ne hC dX5_see_54 (q := 57) rfl (tgt := 70) rfl (fun h54 => ?_) (fun h54 => ?_)
    · have hi3 : i = sp.length := by
        rcases Nat.lt_or_eq_of_le hi with e | e
        · rcases (chS_iff _).mp (hcs.1 e) with q | q
          · exact absurd ((nI_32 hx8).mpr q) h37
          · exact absurd ((nI_10 hx8).mpr q) h54
        · exact e
      subst hi3
      refine x_aloadr_n hC dX5_see_70 (q := 71) rfl rfl ?_
      refine x_aloadr_n hC dX5_see_71 (q := 72) rfl rfl ?_
      refine x_get hC xf_X5_36_4 dX5_see_72 (q := 75) rfl (n := (60, 0)) (xu_eq _ _ _) rfl ?_
      refine x_put hC (n := (60, 0)) xf_X5_43_4 xd_4 rfl dX5_see_75 (q := 78) rfl (xu_eq _ _ _) rfl rfl rfl ?_
      rw [xu_xu]
      refine x_aloadr_n hC dX5_see_78 (q := 79) rfl rfl ?_
      refine x_iconst hC dX5_see_79 (q := 80) rfl (v := (1)) (by decide) ?_
      refine x_put hC (n := (60, 0)) xf_X5_29_4 xd_4 rfl dX5_see_80 (q := 83) rfl (xu_eq _ _ _) rfl rfl rfl ?_
      rw [xu_xu]
      refine x_aloadr_n hC dX5_see_83 (q := 84) rfl rfl ?_
      refine x_iconst hC dX5_see_84 (q := 85) rfl (v := (0)) (by decide) ?_
      refine x_put hC (n := (60, 0)) xf_X5_33_4 xd_4 rfl dX5_see_85 (q := 88) rfl (xu_eq _ _ _) rfl rfl rfl ?_
      rw [xu_xu]
      refine x_aloadr_n hC dX5_see_88 (q := 89) rfl rfl ?_
      refine x_get hC xf_X5_36_4 dX5_see_89 (q := 92) rfl (n := (60, 0)) (xu_eq _ _ _) rfl ?_
      refine x_aloadr_n hC dX5_see_92 (q := 93) rfl rfl ?_
      refine x_get hC xf_X5_26_4 dX5_see_93 (q := 96) rfl (n := (60, 0)) (xu_eq _ _ _) rfl ?_
      refine x_icmp_ne hC dX5_see_96 (q := 99) rfl (tgt := 104) rfl (fun h96 => ?_) (fun h96 => ?_)
      · refine x_aloadr_n hC dX5_see_104 (q := 105) rfl rfl ?_
        refine x_get hC xf_X5_3_4 dX5_see_105 (q := 108) rfl (n := (60, 0)) (xu_eq _ _ _) rfl ?_
        refine x_get hC xf_X5_39_1 dX5_see_108 (q := 111) rfl (n := (0, 0)) (by rw [xu_ne (by decide)]; exact hO) rfl ?_
        refine x_aloadr_n hC dX5_see_111 (q := 112) rfl rfl ?_
        refine x_get hC xf_X5_36_4 dX5_see_112 (q := 115) rfl (n := (60, 0)) (xu_eq _ _ _) rfl ?_
        refine x_cald hC dX5_see_115 (q := 116) rfl (n := (1, 0)) (by rw [xu_ne (by decide)]; exact hT) (j := at0 + sp.length) rfl (by omega) (by decide) ?_
        rw [hTx _ (by omega), drop_at hL, (sp_at hsp (Nat.le_refl _)).2 rfl]
        refine x_istore_n hC dX5_see_116 (q := 117) rfl rfl ?_
        refine x_aloadr_n hC dX5_see_117 (q := 118) rfl rfl ?_
        refine x_iload_n hC dX5_see_118 (q := 119) rfl rfl ?_
        refine x_callV hC xv_X5_46 dX5_see_119 (q := 122) rfl rfl (m_X5_isLetter h0 _ sc (nI c)) (nn := (60, 0)) (xu_eq _ _ _) rfl rfl (Nat.le_of_ble_eq_true rfl) ⟨(Nat.le_of_ble_eq_true rfl), (Nat.le_of_ble_eq_true rfl)⟩ ⟨(Nat.le_of_ble_eq_true rfl), (Nat.le_of_ble_eq_true rfl)⟩ (fun v g1 hp => ?_)
        rw [if_neg (fun q => absurd ((chL_iff hc8).mp q) (by rw [hcL]; decide))] at hp
        obtain ⟨rfl, hg1⟩ := hp
        replace hg1 := hg1.symm
        subst hg1
        refine x_istore_n hC dX5_see_122 (q := 123) rfl rfl ?_
        refine x_iload_n hC dX5_see_123 (q := 124) rfl rfl ?_
        refine x_if_ne hC dX5_see_124 (q := 127) rfl (tgt := 160) rfl (fun h124 => ?_) (fun h124 => ?_)
        · exact absurd rfl h124
        refine x_aloadr_n hC dX5_see_127 (q := 128) rfl rfl ?_
        refine x_iload_n hC dX5_see_128 (q := 129) rfl rfl ?_
        refine x_callV hC xv_X5_50 dX5_see_129 (q := 132) rfl rfl (m_X5_isDigit h0 _ sc (nI c)) (nn := (60, 0)) (xu_eq _ _ _) rfl rfl (Nat.le_of_ble_eq_true rfl) ⟨(Nat.le_of_ble_eq_true rfl), (Nat.le_of_ble_eq_true rfl)⟩ ⟨(Nat.le_of_ble_eq_true rfl), (Nat.le_of_ble_eq_true rfl)⟩ (fun v g1 hp => ?_)
        rw [if_neg (fun q => absurd ((chD_iff hc8).mp q) (by rw [hcD]; decide))] at hp
        obtain ⟨rfl, hg1⟩ := hp
        replace hg1 := hg1.symm
        subst hg1
        refine x_if_ne hC dX5_see_132 (q := 135) rfl (tgt := 160) rfl (fun h132 => ?_) (fun h132 => ?_)
        · exact absurd rfl h132
        refine x_aloadr_n hC dX5_see_135 (q := 136) rfl rfl ?_
        refine x_iload_n hC dX5_see_136 (q := 137) rfl rfl ?_
        refine x_put hC (n := (60, 0)) xf_X5_53_4 xd_4 rfl dX5_see_137 (q := 140) rfl (xu_eq _ _ _) rfl (nar_c hc8) (fit_c hc8) ?_
        rw [xu_xu]
        refine x_aloadr_n hC dX5_see_140 (q := 141) rfl rfl ?_
        refine x_dup hC dX5_see_141 (q := 142) rfl rfl ?_
        refine x_get hC xf_X5_36_4 dX5_see_142 (q := 145) rfl (n := (60, 0)) (xu_eq _ _ _) rfl ?_
        refine x_iconst hC dX5_see_145 (q := 146) rfl (v := (1)) (by decide) ?_
        refine x_iadd hC dX5_see_146 (q := 147) rfl ?_
        rw [nI_1]
        refine x_put hC (n := (60, 0)) xf_X5_36_4 xd_4 rfl dX5_see_147 (q := 150) rfl (xu_eq _ _ _) rfl rfl rfl ?_
        rw [xu_xu]
        refine x_aloadr_n hC dX5_see_150 (q := 151) rfl rfl ?_
        refine x_iconst hC dX5_see_151 (q := 152) rfl (v := (3)) (by decide) ?_
        refine x_put hC (n := (60, 0)) xf_X5_33_4 xd_4 rfl dX5_see_152 (q := 155) rfl (xu_eq _ _ _) rfl rfl rfl ?_
        rw [xu_xu]
        refine x_aloadr_n hC dX5_see_155 (q := 156) rfl rfl ?_
        refine x_get hC xf_X5_33_4 dX5_see_156 (q := 159) rfl (n := (60, 0)) (xu_eq _ _ _) rfl ?_
        exact x_iret hC hr dX5_see_159 (Nat.le_of_ble_eq_true rfl) (Nat.le_of_ble_eq_true rfl) ⟨rfl, rfl⟩
      · exact absurd (show nI (at0 + sp.length) = nI Z.1 from h96) (fun q => by have := (nI_eq (by omega) (by omega)).mp q; omega)
    have hi2 : i < sp.length := by
      rcases Nat.lt_or_eq_of_le hi with e | e
      · exact e
      · have h32 := (nI_10 hx8).mp h54
        rw [hcs.2 e] at h32
        rw [h32] at hcS
        exact absurd hcS (by decide)
    refine x_aloadr_n hC dX5_see_57 (q := 58) rfl rfl ?_
    refine x_dup hC dX5_see_58 (q := 59) rfl rfl ?_
    refine x_get hC xf_X5_36_4 dX5_see_59 (q := 62) rfl (n := (60, 0)) (xu_eq _ _ _) rfl ?_
    refine x_iconst hC dX5_see_62 (q := 63) rfl (v := (1)) (by decide) ?_
    refine x_iadd hC dX5_see_63 (q := 64) rfl ?_
    rw [nI_1]
    refine x_put hC (n := (60, 0)) xf_X5_36_4 xd_4 rfl dX5_see_64 (q := 67) rfl (xu_eq _ _ _) rfl rfl rfl ?_
    rw [xu_xu]
    refine x_goto hC dX5_see_67 (tgt := 12) rfl ?_
    exact ih (i + 1) (by (try dsimp only); omega) (by (try dsimp only); omega)
  · exact absurd rfl h4
