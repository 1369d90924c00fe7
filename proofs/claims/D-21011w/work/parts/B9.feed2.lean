/-! the text is fed, a String -/
def aG (f : Nat → Int32) (i : Nat) : Nat → Int32 := fun k => if k < i then f k &&& 255 else 0
theorem aG_up (f : Nat → Int32) (i : Nat) : upd (aG f i) i (f i &&& 255) = aG f (i + 1) := by
  funext k
  unfold upd aG
  by_cases h : k = i
  · subst h; simp
  · rw [if_neg h]
    by_cases h2 : k < i
    · rw [if_pos h2, if_pos (by omega)]
    · rw [if_neg h2, if_neg (by omega)]
theorem aG_0 (f : Nat → Int32) : aG f 0 = fun _ => 0 := by
  funext k
  unfold aG
  rw [if_neg (Nat.not_lt_zero k)]
theorem a255 (x : Int32) : (x &&& 255) &&& 255 = x &&& 255 := by
  refine b_ext (fun t ht => ?_)
  rw [b_and, b_and, Bool.and_assoc, Bool.and_self]

set_option maxHeartbeats 4000000 in
set_option maxRecDepth 100000 in
theorem m_X0_feed {l : Launch} {s0 : State} {D : va_G} (h0 : x0 l s0 D) (σ : KS) (gF : xG) (b0 : Nat → Int) {sa va N : Nat} {hr0 : List Value} {f : Nat → Int32} (hs : gF (111, 0) = some (sa, xO 23 (.ref va :: .int 0 :: hr0))) (hv : gF (112, 0) = some (va, xAi .byte N f)) (hw9 : gF (109, 0) = none) (hw10 : gF (110, 0) = none) (hN : N ≤ 1500) : xMet l s0 D yX0_feed cX0_feed 4 (some .boolean) (xr 6 90 2000 160) [.ref (kA σ 0 0), .ref sa] (kmix (kTa σ b0 0) gF) (fun r g1 => r = some (.int 1) ∧ ∃ b, (∀ j, j < N → iI (b j) = f j &&& 255) ∧ g1 = kmix (kTa σ b N) gF) := by
  refine xMet.of h0 (by decide +kernel) rfl ?_
  intro zp ze zs zm za zb zf zc hC hr hnm
  refine x_aloadr_n hC dX0_feed_0 (q := 1) rfl rfl ?_
  refine x_callV hC xv_X0_35 dX0_feed_1 (q := 4) rfl rfl (m_J6_length h0 _ (n := (111, 0)) (nv := (112, 0)) ((kmix_F _ _ _ rfl).trans hs) ((kmix_F _ _ _ rfl).trans hv) (by omega)) (nn := (111, 0)) ((kmix_F _ _ _ rfl).trans hs) rfl rfl (Nat.le_of_ble_eq_true rfl) ⟨(by (try dsimp only); omega), (by (try dsimp only); omega)⟩ ⟨(by (try dsimp only); omega), (by (try dsimp only); omega)⟩ (fun v g1 hp => ?_)
  obtain ⟨rfl, hg1⟩ := hp
  replace hg1 := hg1.symm
  subst hg1
  refine x_newa hC (at0 := .int) (N := N) (x := (N, .inl (fun _ => 0))) (109, 0) q159 dX0_feed_4 (q := 6) rfl rfl ((kmix_F _ _ _ rfl).trans hw9) rfl (by omega) (fun _ => rfl) (by (try dsimp only); omega) (by (try dsimp only); omega) (fun a_4 => ?_)
  refine x_astorer_n hC dX0_feed_6 (q := 7) rfl rfl ?_
  refine x_iconst hC dX0_feed_7 (q := 8) rfl (v := (0)) (by decide) ?_
  refine x_istore_n hC dX0_feed_8 (q := 9) rfl rfl ?_
  rw [kmix_xuF _ _ _ _ rfl]
  refine x_geq (g' := kmix (kTa σ b0 0) (xu gF (109, 0) (some (a_4, xAi .int N (aG f 0))))) (by rw [aG_0]; rfl) ?_
  refine x_widen (k0 := 1) (n0 := N) (by (try dsimp only); omega) (by (try dsimp only); omega) ?_
  refine x_loop (S := (fun x : Nat => ((1 : Nat), (N : Nat), kmix (kTa σ b0 0) (xu gF (109, 0) (some (a_4, xAi .int N (aG f x)))), ([some (.ref (kA σ 0 0)), some (.ref sa), some (.ref a_4), some (.int (nI x))] : xL), ([] : List Value)))) (Inv := fun x => x ≤ N) (μ := fun x => N - x) ?_ 0 (Nat.zero_le _)
  intro i hi ih
  dsimp only at hi ih ⊢
  refine x_iload_n hC dX0_feed_9 (q := 10) rfl rfl ?_
  refine x_aloadr_n hC dX0_feed_10 (q := 11) rfl rfl ?_
  refine x_alen hC dX0_feed_11 (q := 12) rfl (n := (109, 0)) ((kmix_F _ _ _ rfl).trans (xu_eq _ _ _)) ?_
  refine x_icmp_ge hC dX0_feed_12 (q := 15) rfl (tgt := 29) rfl (fun h12 => ?_) (fun h12 => ?_)
  · have hj1 : i = N := by
      have := (nI_leI (a := N) (b := i) (by omega) (by omega)).mp h12
      omega
    subst hj1
    refine x_aloadr_n hC dX0_feed_29 (q := 30) rfl rfl ?_
    refine x_aloadr_n hC dX0_feed_30 (q := 31) rfl rfl ?_
    refine x_callS hC xv_X0_45 dX0_feed_31 (q := 34) rfl rfl (m_X0_feed_2 h0 σ (xu gF (109, 0) (some (a_4, xAi .int i (aG f i)))) b0 (xu_eq _ _ _) ((xu_ne (n_fst rfl)).trans hw10) (by omega)) rfl (Nat.le_of_ble_eq_true rfl) ⟨(by (try dsimp only); omega), (by (try dsimp only); omega)⟩ ⟨(by (try dsimp only); omega), (by (try dsimp only); omega)⟩ (fun v g1 hp => ?_)
    obtain ⟨rfl, b, hb, hg1⟩ := hp
    subst hg1
    refine x_sub (g' := kmix (kTa σ b i) gF) (kmix_sub1 hw9 rfl) ?_
    exact x_zret hC hr rfl dX0_feed_34 (by (try dsimp only); omega) (by (try dsimp only); omega) ⟨rfl, b, fun j hj => by rw [hb j hj]; unfold aG; rw [if_pos hj, a255], rfl⟩
  have hj1 : i < N := Nat.not_le.mp (fun q => h12 (nI_le q (by omega)))
  refine x_aloadr_n hC dX0_feed_15 (q := 16) rfl rfl ?_
  refine x_iload_n hC dX0_feed_16 (q := 17) rfl rfl ?_
  refine x_aloadr_n hC dX0_feed_17 (q := 18) rfl rfl ?_
  refine x_iload_n hC dX0_feed_18 (q := 19) rfl rfl ?_
  refine x_callV hC xv_X0_41 dX0_feed_19 (q := 22) rfl rfl (m_J6_charAt h0 _ (n := (111, 0)) (nv := (112, 0)) ((kmix_F _ _ _ rfl).trans ((xu_ne (n_fst rfl)).trans hs)) ((kmix_F _ _ _ rfl).trans ((xu_ne (n_fst rfl)).trans hv)) (by omega) i hj1) (nn := (111, 0)) ((kmix_F _ _ _ rfl).trans ((xu_ne (n_fst rfl)).trans hs)) rfl rfl (Nat.le_of_ble_eq_true rfl) ⟨(by (try dsimp only); omega), (by (try dsimp only); omega)⟩ ⟨(by (try dsimp only); omega), (by (try dsimp only); omega)⟩ (fun v g1 hp => ?_)
  obtain ⟨rfl, hg1⟩ := hp
  replace hg1 := hg1.symm
  subst hg1
  refine x_iast hC dX0_feed_22 (q := 23) rfl (n := (109, 0)) rfl ((kmix_F _ _ _ rfl).trans (xu_eq _ _ _)) (j := i) rfl hj1 (by omega) ?_
  rw [kmix_xuF _ _ _ _ rfl, xu_xu, aG_up]
  refine x_iinc hC dX0_feed_23 (q := 26) rfl rfl (v := nI (i + 1)) (nI_1 i) ?_
  refine x_goto hC dX0_feed_26 (tgt := 9) rfl ?_
  exact ih (i + 1) (by (try dsimp only); omega) (by (try dsimp only); omega)
