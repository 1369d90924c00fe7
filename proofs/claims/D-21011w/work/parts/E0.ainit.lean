/-! Ahead is made, the walk -/

theorem AHo {g : xG} {aa : Nat} {α : aA} (h : AH g aa α) {σ : KS} : kmix σ g (101, 0) = some (aa, xO 0 (aFs α h.choose h.choose_spec.choose h.choose_spec.choose_spec.choose)) := (kmix_F _ _ _ rfl).trans h.choose_spec.choose_spec.choose_spec.1

set_option maxHeartbeats 4000000 in
set_option maxRecDepth 100000 in
theorem m_X19_init {l : Launch} {s0 : State} {D : va_G} (h0 : x0 l s0 D) (σ : KS) (gF gB : xG) (f : aEnv) {ad aa d0 : Nat} {α : aA} {F : Nat → Option (aEnv → Int64)} (hN : DN gF gB ad 5 (fun _ => 0) [.int 0, .int 0, .int 0, .int 0, .int 0, .null, .null, .null, .null, .null, .null, .null, .null, .null, .null, .null, .null, .null, .null]) (hB : ∀ n : xN, 120 ≤ n.1 → n.1 ≤ 137 → gB n = none) (hL0 : gB (2000, 0) = none) (hA : AH gB aa α) (hok : aOk α) (hG : KSt gB F d0 σ) (hFo : KFo s0 gB d0) (hl : LT σ α) (hwk : 0 ≤ kI σ 3 0 ∧ kI σ 3 0 ≤ 900)  : xMet l s0 D yX19_init cX19_init 6 none (xr 56 8500 53000 3300) [.ref ad, .ref (kA σ 0 0), .ref aa] (kmix (kT σ f) gF) (fun r g1 => ∃ f1 y gF1 I V M, r = none ∧ g1 = kmix (kT (kIs σ 5 0 y) f1) gF1 ∧ (∃ ra rr, DQ gF1 gB ad ra rr I V M) ∧ (I 0 = iI (kI σ 7 0) ∧ I 1 = nI (kA σ 63 0) ∧ I 2 = iI (kI σ 3 0) ∧ I 3 = iI (kV σ 1 0 3) ∧ I 4 = iI (kI (kGs F (kIs σ 4 0 1) 1) 7 0)) ∧ AI F σ V M (kA σ 63 0) (aI α 1) (aI α 0)) := by
  have hpP := hG.2.2.1
  have h63 : kA σ 63 0 ≤ 7 := hG.2.2.2.2.2.2.2.1
  have hb0 := hok.1
  have hb1 := hok.2.1
  refine xMet.of h0 (by decide +kernel) rfl ?_
  intro zp ze zs zm za zb zf zc hC hr hnm
  refine x_aloadr_n hC dX19_init_0 (q := 1) rfl rfl ?_
  refine x_objInit hC q1601 q124 q125 dX19_init_1 (q := 4) rfl (by decide) (Nat.le_of_ble_eq_true rfl) (Nat.le_of_ble_eq_true rfl) ?_
  refine x_aloadr_n hC dX19_init_4 (q := 5) rfl rfl ?_
  refine x_iconst hC dX19_init_5 (q := 6) rfl (v := (3)) (by decide) ?_
  refine x_newa hC (at0 := .int) (N := 3) (x := (3, .inl (fun _ => 0))) (121, 0) q159 dX19_init_6 (q := 8) rfl rfl (DN.no hN (121, 0) rfl (by decide) (by decide)) rfl (by decide) (fun _ => rfl) (Nat.le_of_ble_eq_true rfl) (Nat.le_of_ble_eq_true rfl) (fun a_6 => ?_)
  refine x_putF hC hnm (n := (120, 0)) xff_X19_7_16 xd_16 rfl dX19_init_8 (q := 11) rfl ((xu_ne (n_fst rfl)).trans (DN.o hN)) rfl rfl rfl ?_
  refine x_geqE (DN.step hN 121 6 rfl rfl (by decide) a_6 (fs2 := [.int 0, .int 0, .int 0, .int 0, .int 0, .ref a_6, .null, .null, .null, .null, .null, .null, .null, .null, .null, .null, .null, .null, .null]) rfl) (fun gF hN => ?_)
  refine x_aloadr_n hC dX19_init_11 (q := 12) rfl rfl ?_
  refine x_iconst hC dX19_init_12 (q := 13) rfl (v := (3)) (by decide) ?_
  refine x_newa hC (at0 := .int) (N := 3) (x := (3, .inl (fun _ => 0))) (122, 0) q159 dX19_init_13 (q := 15) rfl rfl (DN.no hN (122, 0) rfl (by decide) (by decide)) rfl (by decide) (fun _ => rfl) (Nat.le_of_ble_eq_true rfl) (Nat.le_of_ble_eq_true rfl) (fun a_13 => ?_)
  refine x_putF hC hnm (n := (120, 0)) xff_X19_13_16 xd_16 rfl dX19_init_15 (q := 18) rfl ((xu_ne (n_fst rfl)).trans (DN.o hN)) rfl rfl rfl ?_
  refine x_geqE (DN.step hN 122 7 rfl rfl (by decide) a_13 (fs2 := [.int 0, .int 0, .int 0, .int 0, .int 0, .ref a_6, .ref a_13, .null, .null, .null, .null, .null, .null, .null, .null, .null, .null, .null, .null]) rfl) (fun gF hN => ?_)
  refine x_aloadr_n hC dX19_init_18 (q := 19) rfl rfl ?_
  refine x_iconst hC dX19_init_19 (q := 20) rfl (v := (3)) (by decide) ?_
  refine x_newa hC (at0 := .int) (N := 3) (x := (3, .inl (fun _ => 0))) (123, 0) q159 dX19_init_20 (q := 22) rfl rfl (DN.no hN (123, 0) rfl (by decide) (by decide)) rfl (by decide) (fun _ => rfl) (Nat.le_of_ble_eq_true rfl) (Nat.le_of_ble_eq_true rfl) (fun a_20 => ?_)
  refine x_putF hC hnm (n := (120, 0)) xff_X19_16_16 xd_16 rfl dX19_init_22 (q := 25) rfl ((xu_ne (n_fst rfl)).trans (DN.o hN)) rfl rfl rfl ?_
  refine x_geqE (DN.step hN 123 8 rfl rfl (by decide) a_20 (fs2 := [.int 0, .int 0, .int 0, .int 0, .int 0, .ref a_6, .ref a_13, .ref a_20, .null, .null, .null, .null, .null, .null, .null, .null, .null, .null, .null]) rfl) (fun gF hN => ?_)
  refine x_aloadr_n hC dX19_init_25 (q := 26) rfl rfl ?_
  refine x_iconst hC dX19_init_26 (q := 27) rfl (v := (3)) (by decide) ?_
  refine x_newa hC (at0 := .int) (N := 3) (x := (3, .inl (fun _ => 0))) (124, 0) q159 dX19_init_27 (q := 29) rfl rfl (DN.no hN (124, 0) rfl (by decide) (by decide)) rfl (by decide) (fun _ => rfl) (Nat.le_of_ble_eq_true rfl) (Nat.le_of_ble_eq_true rfl) (fun a_27 => ?_)
  refine x_putF hC hnm (n := (120, 0)) xff_X19_19_16 xd_16 rfl dX19_init_29 (q := 32) rfl ((xu_ne (n_fst rfl)).trans (DN.o hN)) rfl rfl rfl ?_
  refine x_geqE (DN.step hN 124 9 rfl rfl (by decide) a_27 (fs2 := [.int 0, .int 0, .int 0, .int 0, .int 0, .ref a_6, .ref a_13, .ref a_20, .ref a_27, .null, .null, .null, .null, .null, .null, .null, .null, .null, .null]) rfl) (fun gF hN => ?_)
  refine x_aloadr_n hC dX19_init_32 (q := 33) rfl rfl ?_
  refine x_iconst hC dX19_init_33 (q := 34) rfl (v := (3)) (by decide) ?_
  refine x_newa hC (at0 := .int) (N := 3) (x := (3, .inl (fun _ => 0))) (125, 0) q159 dX19_init_34 (q := 36) rfl rfl (DN.no hN (125, 0) rfl (by decide) (by decide)) rfl (by decide) (fun _ => rfl) (Nat.le_of_ble_eq_true rfl) (Nat.le_of_ble_eq_true rfl) (fun a_34 => ?_)
  refine x_putF hC hnm (n := (120, 0)) xff_X19_22_16 xd_16 rfl dX19_init_36 (q := 39) rfl ((xu_ne (n_fst rfl)).trans (DN.o hN)) rfl rfl rfl ?_
  refine x_geqE (DN.step hN 125 10 rfl rfl (by decide) a_34 (fs2 := [.int 0, .int 0, .int 0, .int 0, .int 0, .ref a_6, .ref a_13, .ref a_20, .ref a_27, .ref a_34, .null, .null, .null, .null, .null, .null, .null, .null, .null]) rfl) (fun gF hN => ?_)
  refine x_aloadr_n hC dX19_init_39 (q := 40) rfl rfl ?_
  refine x_bipush hC dX19_init_40 (q := 42) rfl (v := (6)) (by decide) ?_
  refine x_newa hC (at0 := .int) (N := 6) (x := (6, .inl (fun _ => 0))) (126, 0) q159 dX19_init_42 (q := 44) rfl rfl (DN.no hN (126, 0) rfl (by decide) (by decide)) rfl (by decide) (fun _ => rfl) (Nat.le_of_ble_eq_true rfl) (Nat.le_of_ble_eq_true rfl) (fun a_42 => ?_)
  refine x_putF hC hnm (n := (120, 0)) xff_X19_25_16 xd_16 rfl dX19_init_44 (q := 47) rfl ((xu_ne (n_fst rfl)).trans (DN.o hN)) rfl rfl rfl ?_
  refine x_geqE (DN.step hN 126 11 rfl rfl (by decide) a_42 (fs2 := [.int 0, .int 0, .int 0, .int 0, .int 0, .ref a_6, .ref a_13, .ref a_20, .ref a_27, .ref a_34, .ref a_42, .null, .null, .null, .null, .null, .null, .null, .null]) rfl) (fun gF hN => ?_)
  refine x_aloadr_n hC dX19_init_47 (q := 48) rfl rfl ?_
  refine x_bipush hC dX19_init_48 (q := 50) rfl (v := (6)) (by decide) ?_
  refine x_newa hC (at0 := .int) (N := 6) (x := (6, .inl (fun _ => 0))) (127, 0) q159 dX19_init_50 (q := 52) rfl rfl (DN.no hN (127, 0) rfl (by decide) (by decide)) rfl (by decide) (fun _ => rfl) (Nat.le_of_ble_eq_true rfl) (Nat.le_of_ble_eq_true rfl) (fun a_50 => ?_)
  refine x_putF hC hnm (n := (120, 0)) xff_X19_28_16 xd_16 rfl dX19_init_52 (q := 55) rfl ((xu_ne (n_fst rfl)).trans (DN.o hN)) rfl rfl rfl ?_
  refine x_geqE (DN.step hN 127 12 rfl rfl (by decide) a_50 (fs2 := [.int 0, .int 0, .int 0, .int 0, .int 0, .ref a_6, .ref a_13, .ref a_20, .ref a_27, .ref a_34, .ref a_42, .ref a_50, .null, .null, .null, .null, .null, .null, .null]) rfl) (fun gF hN => ?_)
  refine x_aloadr_n hC dX19_init_55 (q := 56) rfl rfl ?_
  refine x_bipush hC dX19_init_56 (q := 58) rfl (v := (6)) (by decide) ?_
  refine x_newa hC (at0 := .int) (N := 6) (x := (6, .inl (fun _ => 0))) (128, 0) q159 dX19_init_58 (q := 60) rfl rfl (DN.no hN (128, 0) rfl (by decide) (by decide)) rfl (by decide) (fun _ => rfl) (Nat.le_of_ble_eq_true rfl) (Nat.le_of_ble_eq_true rfl) (fun a_58 => ?_)
  refine x_putF hC hnm (n := (120, 0)) xff_X19_31_16 xd_16 rfl dX19_init_60 (q := 63) rfl ((xu_ne (n_fst rfl)).trans (DN.o hN)) rfl rfl rfl ?_
  refine x_geqE (DN.step hN 128 13 rfl rfl (by decide) a_58 (fs2 := [.int 0, .int 0, .int 0, .int 0, .int 0, .ref a_6, .ref a_13, .ref a_20, .ref a_27, .ref a_34, .ref a_42, .ref a_50, .ref a_58, .null, .null, .null, .null, .null, .null]) rfl) (fun gF hN => ?_)
  refine x_aloadr_n hC dX19_init_63 (q := 64) rfl rfl ?_
  refine x_bipush hC dX19_init_64 (q := 66) rfl (v := (6)) (by decide) ?_
  refine x_newa hC (at0 := .int) (N := 6) (x := (6, .inl (fun _ => 0))) (129, 0) q159 dX19_init_66 (q := 68) rfl rfl (DN.no hN (129, 0) rfl (by decide) (by decide)) rfl (by decide) (fun _ => rfl) (Nat.le_of_ble_eq_true rfl) (Nat.le_of_ble_eq_true rfl) (fun a_66 => ?_)
  refine x_putF hC hnm (n := (120, 0)) xff_X19_34_16 xd_16 rfl dX19_init_68 (q := 71) rfl ((xu_ne (n_fst rfl)).trans (DN.o hN)) rfl rfl rfl ?_
  refine x_geqE (DN.step hN 129 14 rfl rfl (by decide) a_66 (fs2 := [.int 0, .int 0, .int 0, .int 0, .int 0, .ref a_6, .ref a_13, .ref a_20, .ref a_27, .ref a_34, .ref a_42, .ref a_50, .ref a_58, .ref a_66, .null, .null, .null, .null, .null]) rfl) (fun gF hN => ?_)
  refine x_aloadr_n hC dX19_init_71 (q := 72) rfl rfl ?_
  refine x_bipush hC dX19_init_72 (q := 74) rfl (v := (6)) (by decide) ?_
  refine x_newa hC (at0 := .int) (N := 6) (x := (6, .inl (fun _ => 0))) (130, 0) q159 dX19_init_74 (q := 76) rfl rfl (DN.no hN (130, 0) rfl (by decide) (by decide)) rfl (by decide) (fun _ => rfl) (Nat.le_of_ble_eq_true rfl) (Nat.le_of_ble_eq_true rfl) (fun a_74 => ?_)
  refine x_putF hC hnm (n := (120, 0)) xff_X19_37_16 xd_16 rfl dX19_init_76 (q := 79) rfl ((xu_ne (n_fst rfl)).trans (DN.o hN)) rfl rfl rfl ?_
  refine x_geqE (DN.step hN 130 15 rfl rfl (by decide) a_74 (fs2 := [.int 0, .int 0, .int 0, .int 0, .int 0, .ref a_6, .ref a_13, .ref a_20, .ref a_27, .ref a_34, .ref a_42, .ref a_50, .ref a_58, .ref a_66, .ref a_74, .null, .null, .null, .null]) rfl) (fun gF hN => ?_)
  refine x_aloadr_n hC dX19_init_79 (q := 80) rfl rfl ?_
  refine x_bipush hC dX19_init_80 (q := 82) rfl (v := (6)) (by decide) ?_
  refine x_newa hC (at0 := .boolean) (N := 6) (x := (6, .inl (fun _ => 0))) (131, 0) q1657 dX19_init_82 (q := 84) rfl rfl (DN.no hN (131, 0) rfl (by decide) (by decide)) rfl (by decide) (fun _ => rfl) (Nat.le_of_ble_eq_true rfl) (Nat.le_of_ble_eq_true rfl) (fun a_82 => ?_)
  refine x_putF hC hnm (n := (120, 0)) xff_X19_40_16 xd_16 rfl dX19_init_84 (q := 87) rfl ((xu_ne (n_fst rfl)).trans (DN.o hN)) rfl rfl rfl ?_
  refine x_geqE (DN.step hN 131 16 rfl rfl (by decide) a_82 (fs2 := [.int 0, .int 0, .int 0, .int 0, .int 0, .ref a_6, .ref a_13, .ref a_20, .ref a_27, .ref a_34, .ref a_42, .ref a_50, .ref a_58, .ref a_66, .ref a_74, .ref a_82, .null, .null, .null]) rfl) (fun gF hN => ?_)
  refine x_aloadr_n hC dX19_init_87 (q := 88) rfl rfl ?_
  refine x_bipush hC dX19_init_88 (q := 90) rfl (v := (6)) (by decide) ?_
  refine x_iconst hC dX19_init_90 (q := 91) rfl (v := (4)) (by decide) ?_
  refine x_multi hC (132, 0) (ki := 133) (N := 6) (M := 4) (ty := .int) (Or.inl rfl) q1602 q1603 q159 dX19_init_91 (q := 95) rfl rfl rfl (by decide) (DN.no hN (132, 0) rfl (by first | decide | (dsimp only; omega)) (by first | decide | (dsimp only; omega))) (fun j _ => (DN.no hN (133, j) rfl (by first | decide | (dsimp only; omega)) (by first | decide | (dsimp only; omega)))) rfl rfl (by decide) (by decide) (Nat.le_of_ble_eq_true rfl) (Nat.le_of_ble_eq_true rfl) (fun m1 => ?_)
  refine x_putF hC hnm (n := (120, 0)) xff_X19_46_16 xd_16 rfl dX19_init_95 (q := 98) rfl ((xmu_ne (n_fst rfl) (by decide)).trans (DN.o hN)) rfl rfl rfl ?_
  refine x_aloadr_n hC dX19_init_98 (q := 99) rfl rfl ?_
  refine x_bipush hC dX19_init_99 (q := 101) rfl (v := (6)) (by decide) ?_
  refine x_iconst hC dX19_init_101 (q := 102) rfl (v := (4)) (by decide) ?_
  refine x_multi hC (134, 0) (ki := 135) (N := 6) (M := 4) (ty := .int) (Or.inl rfl) q1602 q1603 q159 dX19_init_102 (q := 106) rfl rfl rfl (by decide) ((xu_ne (n_fst rfl)).trans ((xmu_ne (n_fst rfl) (by first | decide | (dsimp only; omega))).trans (DN.no hN (134, 0) rfl (by first | decide | (dsimp only; omega)) (by first | decide | (dsimp only; omega))))) (fun j _ => ((xu_ne (n_fst rfl)).trans ((xmu_ne (n_fst rfl) (by first | decide | (dsimp only; omega))).trans (DN.no hN (135, j) rfl (by first | decide | (dsimp only; omega)) (by first | decide | (dsimp only; omega)))))) rfl rfl (by decide) (by decide) (Nat.le_of_ble_eq_true rfl) (Nat.le_of_ble_eq_true rfl) (fun m2 => ?_)
  refine x_putF hC hnm (n := (120, 0)) xff_X19_49_16 xd_16 rfl dX19_init_106 (q := 109) rfl ((xmu_ne (n_fst rfl) (by decide)).trans (xu_eq _ _ _)) rfl rfl rfl ?_
  refine x_aloadr_n hC dX19_init_109 (q := 110) rfl rfl ?_
  refine x_bipush hC dX19_init_110 (q := 112) rfl (v := (40)) (by decide) ?_
  refine x_iconst hC dX19_init_112 (q := 113) rfl (v := (4)) (by decide) ?_
  refine x_multi hC (136, 0) (ki := 137) (N := 40) (M := 4) (ty := .int) (Or.inl rfl) q1602 q1603 q159 dX19_init_113 (q := 117) rfl rfl rfl (by decide) ((xu_ne (n_fst rfl)).trans ((xmu_ne (n_fst rfl) (by first | decide | (dsimp only; omega))).trans ((xu_ne (n_fst rfl)).trans ((xmu_ne (n_fst rfl) (by first | decide | (dsimp only; omega))).trans (DN.no hN (136, 0) rfl (by first | decide | (dsimp only; omega)) (by first | decide | (dsimp only; omega))))))) (fun j _ => ((xu_ne (n_fst rfl)).trans ((xmu_ne (n_fst rfl) (by first | decide | (dsimp only; omega))).trans ((xu_ne (n_fst rfl)).trans ((xmu_ne (n_fst rfl) (by first | decide | (dsimp only; omega))).trans (DN.no hN (137, j) rfl (by first | decide | (dsimp only; omega)) (by first | decide | (dsimp only; omega)))))))) rfl rfl (by decide) (by decide) (Nat.le_of_ble_eq_true rfl) (Nat.le_of_ble_eq_true rfl) (fun m3 => ?_)
  refine x_putF hC hnm (n := (120, 0)) xff_X19_52_16 xd_16 rfl dX19_init_117 (q := 120) rfl ((xmu_ne (n_fst rfl) (by decide)).trans (xu_eq _ _ _)) rfl rfl rfl ?_
  refine x_geqE (DN.fin hN m1 m2 m3 (f3 := DFs (fun _ => 0) _) rfl) (fun gF hD => ?_)
  obtain ⟨ra, hD⟩ : ∃ ra, DQ gF gB ad ra (fun t c => if t = 16 then m1 + 1 + c else if t = 17 then m2 + 1 + c else m3 + 1 + c) (fun _ => 0) (fun _ _ => 0) (fun _ _ _ => 0) := ⟨_, hD⟩
  clear hN
  refine x_aloadr_n hC dX19_init_120 (q := 121) rfl rfl ?_
  refine x_aloadr_n hC dX19_init_121 (q := 122) rfl rfl ?_
  refine x_iconst hC dX19_init_122 (q := 123) rfl (v := (3)) (by decide) ?_
  refine x_callV hC xv_X19_55 dX19_init_123 (q := 126) rfl rfl (m_X2_has_3 h0 (kT σ f) gF) (nn := (0, 0)) rfl rfl rfl (Nat.le_of_ble_eq_true rfl) ⟨(Nat.le_of_ble_eq_true rfl), (Nat.le_of_ble_eq_true rfl)⟩ ⟨(Nat.le_of_ble_eq_true rfl), (Nat.le_of_ble_eq_true rfl)⟩ (fun v g1 hp => ?_)
  obtain ⟨rfl, hg1⟩ := hp
  replace hg1 := hg1.symm
  subst hg1
  refine x_putF hC hnm (n := (120, 0)) xff_X19_61_16 xd_16 rfl dX19_init_126 (q := 129) rfl (DQ.o hD) rfl rfl rfl ?_
  refine x_geqE (DQ.pI hD (upd (fun _ => 0) 0 (iI (kI σ 7 0))) rfl) (fun gF hD => ?_)
  refine x_aloadr_n hC dX19_init_129 (q := 130) rfl rfl ?_
  refine x_bipush hC dX19_init_130 (q := 132) rfl (v := (40)) (by decide) ?_
  refine x_aloadr_n hC dX19_init_132 (q := 133) rfl rfl ?_
  refine x_bipush hC dX19_init_133 (q := 135) rfl (v := (8)) (by decide) ?_
  refine x_callV hC xv_X19_55 dX19_init_135 (q := 138) rfl rfl (m_X2_has_8 h0 (kT σ f) gF) (nn := (0, 0)) rfl rfl rfl (Nat.le_of_ble_eq_true rfl) ⟨(Nat.le_of_ble_eq_true rfl), (Nat.le_of_ble_eq_true rfl)⟩ ⟨(Nat.le_of_ble_eq_true rfl), (Nat.le_of_ble_eq_true rfl)⟩ (fun v g1 hp => ?_)
  obtain ⟨rfl, hg1⟩ := hp
  replace hg1 := hg1.symm
  subst hg1
  refine x_callS hC xv_X19_65 dX19_init_138 (q := 141) rfl rfl (m_J0_min h0 _ 40 (nI (kA σ 63 0))) rfl (Nat.le_of_ble_eq_true rfl) ⟨(Nat.le_of_ble_eq_true rfl), (Nat.le_of_ble_eq_true rfl)⟩ ⟨(Nat.le_of_ble_eq_true rfl), (Nat.le_of_ble_eq_true rfl)⟩ (fun v g1 hp => ?_)
  rw [if_pos (show nI (kA σ 63 0) < 40 by rw [← iI_nat]; exact (iI_lt (b := 40) ⟨by omega, by omega⟩ ⟨by decide, by decide⟩).mpr (by omega))] at hp
  obtain ⟨rfl, hg1⟩ := hp
  replace hg1 := hg1.symm
  subst hg1
  refine x_putF hC hnm (n := (120, 0)) xff_X19_71_16 xd_16 rfl dX19_init_141 (q := 144) rfl (DQ.o hD) rfl rfl rfl ?_
  refine x_geqE (DQ.pI hD (upd (upd (fun _ => 0) 0 (iI (kI σ 7 0))) 1 (nI (kA σ 63 0))) rfl) (fun gF hD => ?_)
  refine x_aloadr_n hC dX19_init_144 (q := 145) rfl rfl ?_
  refine x_aloadr_n hC dX19_init_145 (q := 146) rfl rfl ?_
  refine x_iconst hC dX19_init_146 (q := 147) rfl (v := (2)) (by decide) ?_
  refine x_callV hC xv_X19_55 dX19_init_147 (q := 150) rfl rfl (m_X2_has_2 h0 (kT σ f) gF) (nn := (0, 0)) rfl rfl rfl (Nat.le_of_ble_eq_true rfl) ⟨(Nat.le_of_ble_eq_true rfl), (Nat.le_of_ble_eq_true rfl)⟩ ⟨(Nat.le_of_ble_eq_true rfl), (Nat.le_of_ble_eq_true rfl)⟩ (fun v g1 hp => ?_)
  obtain ⟨rfl, hg1⟩ := hp
  replace hg1 := hg1.symm
  subst hg1
  refine x_putF hC hnm (n := (120, 0)) xff_X19_74_16 xd_16 rfl dX19_init_150 (q := 153) rfl (DQ.o hD) rfl rfl rfl ?_
  refine x_geqE (DQ.pI hD (upd (upd (upd (fun _ => 0) 0 (iI (kI σ 7 0))) 1 (nI (kA σ 63 0))) 2 (iI (kI σ 3 0))) rfl) (fun gF hD => ?_)
  refine x_aloadr_n hC dX19_init_153 (q := 154) rfl rfl ?_
  refine x_aloadr_n hC dX19_init_154 (q := 155) rfl rfl ?_
  refine x_iconst hC dX19_init_155 (q := 156) rfl (v := (3)) (by decide) ?_
  refine x_callV hC xv_X19_77 dX19_init_156 (q := 159) rfl rfl (m_X2_status h0 (kT σ f) gF 3 (by decide)) (nn := (0, 0)) rfl rfl rfl (Nat.le_of_ble_eq_true rfl) ⟨(Nat.le_of_ble_eq_true rfl), (Nat.le_of_ble_eq_true rfl)⟩ ⟨(Nat.le_of_ble_eq_true rfl), (Nat.le_of_ble_eq_true rfl)⟩ (fun v g1 hp => ?_)
  obtain ⟨rfl, hg1⟩ := hp
  replace hg1 := hg1.symm
  subst hg1
  refine x_putF hC hnm (n := (120, 0)) xff_X19_80_16 xd_16 rfl dX19_init_159 (q := 162) rfl (DQ.o hD) rfl rfl rfl ?_
  refine x_geqE (DQ.pI hD (upd (upd (upd (upd (fun _ => 0) 0 (iI (kI σ 7 0))) 1 (nI (kA σ 63 0))) 2 (iI (kI σ 3 0))) 3 (iI (kV σ 1 0 3))) rfl) (fun gF hD => ?_)
  refine x_aloadr_n hC dX19_init_162 (q := 163) rfl rfl ?_
  refine x_aloadr_n hC dX19_init_163 (q := 164) rfl rfl ?_
  refine x_iconst hC dX19_init_164 (q := 165) rfl (v := (1)) (by decide) ?_
  refine x_geq (g' := kmix (kT (kIs σ 5 0 (kI σ 5 0)) f) gF) (by rw [kIs_self (show kI σ 5 0 = kI σ 5 0 from rfl)]) ?_
  refine x_callV hC xv_X19_83 dX19_init_165 (q := 168) rfl rfl ((m_fuel5 h0 σ gF (kI σ 5 0) f (hD.st hB hG) (hD.fo hFo) 1 (by decide) ⟨hwk.1, by omega⟩ ((hD.out _ (Or.inr (by decide))).trans hL0))) (nn := (0, 0)) rfl rfl rfl (Nat.le_of_ble_eq_true rfl) ⟨(Nat.le_of_ble_eq_true rfl), (Nat.le_of_ble_eq_true rfl)⟩ ⟨(Nat.le_of_ble_eq_true rfl), (Nat.le_of_ble_eq_true rfl)⟩ (fun v g1 hp => ?_)
  obtain ⟨f2, y2, rfl, hg1⟩ := hp
  subst hg1
  refine x_putF hC hnm (n := (120, 0)) xff_X19_85_16 xd_16 rfl dX19_init_168 (q := 171) rfl (DQ.o hD) rfl rfl rfl ?_
  refine x_geqE (DQ.pI hD (upd (upd (upd (upd (upd (fun _ => 0) 0 (iI (kI σ 7 0))) 1 (nI (kA σ 63 0))) 2 (iI (kI σ 3 0))) 3 (iI (kV σ 1 0 3))) 4 (iI (kI (kGs F (kIs σ 4 0 1) 1) 7 0))) rfl) (fun gF hD => ?_)
  obtain ⟨I, V, M, rr, hD, hI, hAI⟩ : ∃ I V M rr, DQ gF gB ad ra rr I V M ∧ (I 0 = iI (kI σ 7 0) ∧ I 1 = nI (kA σ 63 0) ∧ I 2 = iI (kI σ 3 0) ∧ I 3 = iI (kV σ 1 0 3) ∧ I 4 = iI (kI (kGs F (kIs σ 4 0 1) 1) 7 0)) ∧ AI F σ V M 0 0 0 := ⟨_, _, _, _, hD, ⟨rfl, rfl, rfl, rfl, rfl⟩, fun k hk => absurd hk (Nat.not_lt_zero k), fun k hk => absurd hk (Nat.not_lt_zero k), fun k hk => absurd hk (Nat.not_lt_zero k)⟩
  refine x_iconst hC dX19_init_171 (q := 172) rfl (v := (0)) (by decide) ?_
  refine x_istore_n hC dX19_init_172 (q := 173) rfl rfl ?_
  refine x_loop (S := (fun x : Nat × xG × Option Value => ((136 : Nat), (771 : Nat), kmix (kT (kIs σ 5 0 y2) f2) x.2.1, ([some (.ref ad), some (.ref (kA σ 0 0)), some (.ref aa), some (.int (nI x.1)), x.2.2, none] : xL), ([] : List Value)))) (Inv := fun x => x.1 ≤ kA σ 63 0 ∧ ∃ M, DQ x.2.1 gB ad ra rr I V M ∧ AI F σ V M x.1 0 0) (μ := fun x => kA σ 63 0 - x.1) ?_ (0, gF, none) ⟨Nat.zero_le _, M, hD, hAI⟩
  intro x hi ih
  obtain ⟨k, gF, u4⟩ := x
  obtain ⟨hi, M, hD, hAI⟩ := hi
  dsimp only at hi hD hAI ih ⊢
  refine x_iload_n hC dX19_init_173 (q := 174) rfl rfl ?_
  refine x_aloadr_n hC dX19_init_174 (q := 175) rfl rfl ?_
  refine x_get hC xf_X19_71_16 dX19_init_175 (q := 178) rfl (n := (120, 0)) (DQ.o hD) rfl ?_
  rw [hI.2.1]
  refine x_icmp_ge hC dX19_init_178 (q := 181) rfl (tgt := 218) rfl (fun h178 => ?_) (fun h178 => ?_)
  · have hk1 : k = kA σ 63 0 := by
      have := (nI_leI (a := kA σ 63 0) (b := k) (by omega) (by omega)).mp h178
      omega
    subst hk1
    refine x_iconst hC dX19_init_218 (q := 219) rfl (v := (0)) (by decide) ?_
    refine x_istore_n hC dX19_init_219 (q := 220) rfl rfl ?_
    refine x_loop (S := (fun x : Nat × xG × aEnv × Int × Option Value => (136 + 2643 * x.1, 771 + 16488 * x.1, kmix (kT (kIs σ 5 0 x.2.2.2.1) x.2.2.1) x.2.1, ([some (.ref ad), some (.ref (kA σ 0 0)), some (.ref aa), some (.int (nI x.1)), x.2.2.2.2, none] : xL), ([] : List Value)))) (Inv := fun x => x.1 ≤ aI α 1 ∧ ∃ V, DQ x.2.1 gB ad ra rr I V M ∧ AI F σ V M (kA σ 63 0) x.1 0) (μ := fun x => aI α 1 - x.1) ?_ (0, gF, f2, y2, u4) ⟨Nat.zero_le _, V, hD, hAI⟩
    intro x hi ih
    obtain ⟨q, gF, f, y, u4⟩ := x
    obtain ⟨hi, V, hD, hAI⟩ := hi
    dsimp only at hi hD hAI ih ⊢
    refine x_iload_n hC dX19_init_220 (q := 221) rfl rfl ?_
    refine x_aloadr_n hC dX19_init_221 (q := 222) rfl rfl ?_
    refine x_get hC xf_X19_90_0 dX19_init_222 (q := 225) rfl (n := (101, 0)) (AHo (DQ.ah hD hA)) rfl ?_
    refine x_icmp_ge hC dX19_init_225 (q := 228) rfl (tgt := 293) rfl (fun h225 => ?_) (fun h225 => ?_)
    · have hq1 : q = aI α 1 := by
        have := (nI_leI (a := aI α 1) (b := q) (by omega) (by omega)).mp h225
        omega
      subst hq1
      refine x_iconst hC dX19_init_293 (q := 294) rfl (v := (0)) (by decide) ?_
      refine x_istore_n hC dX19_init_294 (q := 295) rfl rfl ?_
      refine x_loop (S := (fun x : Nat × xG × aEnv × Int × Option Value × Option Value => (136 + 2643 * aI α 1 + 70 * x.1, 771 + 16488 * aI α 1 + 460 * x.1, kmix (kT (kIs σ 5 0 x.2.2.2.1) x.2.2.1) x.2.1, ([some (.ref ad), some (.ref (kA σ 0 0)), some (.ref aa), some (.int (nI x.1)), x.2.2.2.2.1, x.2.2.2.2.2] : xL), ([] : List Value)))) (Inv := fun x => x.1 ≤ aI α 0 ∧ ∃ V M, DQ x.2.1 gB ad ra rr I V M ∧ AI F σ V M (kA σ 63 0) (aI α 1) x.1) (μ := fun x => aI α 0 - x.1) ?_ (0, gF, f, y, u4, none) ⟨Nat.zero_le _, V, M, hD, hAI⟩
      intro x hi ih
      obtain ⟨c, gF, f, y, u4, u5⟩ := x
      obtain ⟨hi, V, M, hD, hAI⟩ := hi
      dsimp only at hi hD hAI ih ⊢
      refine x_iload_n hC dX19_init_295 (q := 296) rfl rfl ?_
      refine x_aloadr_n hC dX19_init_296 (q := 297) rfl rfl ?_
      refine x_get hC xf_X19_100_0 dX19_init_297 (q := 300) rfl (n := (101, 0)) (AHo (DQ.ah hD hA)) rfl ?_
      refine x_icmp_ge hC dX19_init_300 (q := 303) rfl (tgt := 494) rfl (fun h300 => ?_) (fun h300 => ?_)
      · have hc1 : c = aI α 0 := by
          have := (nI_leI (a := aI α 0) (b := c) (by omega) (by omega)).mp h300
          omega
        subst hc1
        exact x_vret hC hr dX19_init_494 (by (try dsimp only); omega) (by (try dsimp only); omega) ⟨f, y, gF, I, V, M, rfl, rfl, ⟨ra, rr, hD⟩, hI, hAI⟩
      have hc1 : c < aI α 0 := Nat.not_le.mp (fun w => h300 (nI_le w (by omega)))
      have hc2 : c < kA σ 61 0 := by rw [hl.1]; exact hc1
      refine x_aloadr_n hC dX19_init_303 (q := 304) rfl rfl ?_
      refine x_get hC xf_X19_25_16 dX19_init_304 (q := 307) rfl (n := (120, 0)) (DQ.o hD) rfl ?_
      refine x_iload_n hC dX19_init_307 (q := 308) rfl rfl ?_
      refine x_aloadr_n hC dX19_init_308 (q := 309) rfl rfl ?_
      refine x_iload_n hC dX19_init_309 (q := 310) rfl rfl ?_
      refine x_iconst hC dX19_init_310 (q := 311) rfl (v := (2)) (by decide) ?_
      refine x_callV hC xv_X19_103 dX19_init_311 (q := 314) rfl rfl (m_X2_child_2 h0 (kT (kIs σ 5 0 y) f) gF (((hD.st hB hG).2.1).1) c hc2) (nn := (0, 0)) rfl rfl rfl (Nat.le_of_ble_eq_true rfl) ⟨(by (try dsimp only); omega), (by (try dsimp only); omega)⟩ ⟨(by (try dsimp only); omega), (by (try dsimp only); omega)⟩ (fun v g1 hp => ?_)
      obtain ⟨rfl, hg1⟩ := hp
      replace hg1 := hg1.symm
      subst hg1
      refine x_iast hC dX19_init_314 (q := 315) rfl (n := (126, 0)) rfl (DQ.v6 hD 10 126 rfl (by decide) (by decide)) (j := c) rfl (by omega) (by decide) ?_
      refine x_geqE (DQ.pV hD 10 126 6 rfl (Or.inr (by decide))) (fun gF hD => ?_)
      refine x_aloadr_n hC dX19_init_315 (q := 316) rfl rfl ?_
      refine x_get hC xf_X19_28_16 dX19_init_316 (q := 319) rfl (n := (120, 0)) (DQ.o hD) rfl ?_
      refine x_iload_n hC dX19_init_319 (q := 320) rfl rfl ?_
      refine x_aloadr_n hC dX19_init_320 (q := 321) rfl rfl ?_
      refine x_iload_n hC dX19_init_321 (q := 322) rfl rfl ?_
      refine x_iconst hC dX19_init_322 (q := 323) rfl (v := (3)) (by decide) ?_
      refine x_callV hC xv_X19_103 dX19_init_323 (q := 326) rfl rfl (m_X2_child_3 h0 (kT (kIs σ 5 0 y) f) gF (((hD.st hB hG).2.1).1) c hc2) (nn := (0, 0)) rfl rfl rfl (Nat.le_of_ble_eq_true rfl) ⟨(by (try dsimp only); omega), (by (try dsimp only); omega)⟩ ⟨(by (try dsimp only); omega), (by (try dsimp only); omega)⟩ (fun v g1 hp => ?_)
      obtain ⟨rfl, hg1⟩ := hp
      replace hg1 := hg1.symm
      subst hg1
      refine x_iast hC dX19_init_326 (q := 327) rfl (n := (127, 0)) rfl (DQ.v6 hD 11 127 rfl (by decide) (by decide)) (j := c) rfl (by omega) (by decide) ?_
      refine x_geqE (DQ.pV hD 11 127 6 rfl (Or.inr (by decide))) (fun gF hD => ?_)
      refine x_aloadr_n hC dX19_init_327 (q := 328) rfl rfl ?_
      refine x_get hC xf_X19_40_16 dX19_init_328 (q := 331) rfl (n := (120, 0)) (DQ.o hD) rfl ?_
      refine x_iload_n hC dX19_init_331 (q := 332) rfl rfl ?_
      refine x_aloadr_n hC dX19_init_332 (q := 333) rfl rfl ?_
      refine x_iload_n hC dX19_init_333 (q := 334) rfl rfl ?_
      refine x_iconst hC dX19_init_334 (q := 335) rfl (v := (4)) (by decide) ?_
      refine x_callV hC xv_X19_103 dX19_init_335 (q := 338) rfl rfl (m_X2_child_4 h0 (kT (kIs σ 5 0 y) f) gF (((hD.st hB hG).2.1).1) c hc2) (nn := (0, 0)) rfl rfl rfl (Nat.le_of_ble_eq_true rfl) ⟨(by (try dsimp only); omega), (by (try dsimp only); omega)⟩ ⟨(by (try dsimp only); omega), (by (try dsimp only); omega)⟩ (fun v g1 hp => ?_)
      obtain ⟨rfl, hg1⟩ := hp
      replace hg1 := hg1.symm
      subst hg1
      refine x_meet (pc2 := 346) (S := (fun x : Int32 => (136 + 2643 * aI α 1 + 70 * c, 771 + 16488 * aI α 1 + 460 * c, kmix (kT (kIs σ 5 0 y) f) gF, ([some (.ref ad), some (.ref (kA σ 0 0)), some (.ref aa), some (.int (nI c)), u4, u5] : xL), ([.int x, .int (nI c), .ref (ra 15)] : List Value)))) (Inv := fun x => x = (if iI (kI σ 34 c) = -1 then 1 else 0)) (fun ih => ?_) (fun xx hi => ?_)
      · refine x_if_ne hC dX19_init_338 (q := 341) rfl (tgt := 345) rfl (fun h338 => ?_) (fun h338 => ?_)
        · have hraw : ¬ iI (kI σ 34 c) = -1 := fun w => h338 (if_pos w)
          refine x_iconst hC dX19_init_345 (q := 346) rfl (v := (0)) (by decide) ?_
          first
            | exact ih 1 (by rw [if_pos hraw])
            | exact ih 0 (by rw [if_neg hraw])
        have hraw : iI (kI σ 34 c) = -1 := Classical.byContradiction (fun w => absurd ((if_neg w).symm.trans h338) (by decide))
        refine x_iconst hC dX19_init_341 (q := 342) rfl (v := (1)) (by decide) ?_
        refine x_goto hC dX19_init_342 (tgt := 346) rfl ?_
        first
          | exact ih 1 (by rw [if_pos hraw])
          | exact ih 0 (by rw [if_neg hraw])
      obtain ⟨zr, hzr⟩ : ∃ z, z = xx := ⟨_, rfl⟩
      subst hzr
      dsimp only at hi ⊢
      have hz01 : vp_nar .boolean zr = zr := vp01 (by rw [hi]; by_cases w : iI (kI σ 34 c) = -1 <;> simp [w])
      refine x_zast hC dX19_init_346 (q := 347) rfl (n := (131, 0)) rfl (DQ.z hD) (j := c) rfl (by omega) (by decide) ?_
      rw [hz01]
      refine x_geqE (DQ.pZ hD) (fun gF hD => ?_)
      refine x_aloadr_n hC dX19_init_347 (q := 348) rfl rfl ?_
      refine x_get hC xf_X19_31_16 dX19_init_348 (q := 351) rfl (n := (120, 0)) (DQ.o hD) rfl ?_
      refine x_iload_n hC dX19_init_351 (q := 352) rfl rfl ?_
      refine x_aloadr_n hC dX19_init_352 (q := 353) rfl rfl ?_
      refine x_iload_n hC dX19_init_353 (q := 354) rfl rfl ?_
      refine x_iconst hC dX19_init_354 (q := 355) rfl (v := (5)) (by decide) ?_
      refine x_callV hC xv_X19_103 dX19_init_355 (q := 358) rfl rfl (m_X2_child_5 h0 (kT (kIs σ 5 0 y) f) gF (((hD.st hB hG).2.1).1) c hc2) (nn := (0, 0)) rfl rfl rfl (Nat.le_of_ble_eq_true rfl) ⟨(by (try dsimp only); omega), (by (try dsimp only); omega)⟩ ⟨(by (try dsimp only); omega), (by (try dsimp only); omega)⟩ (fun v g1 hp => ?_)
      obtain ⟨rfl, hg1⟩ := hp
      replace hg1 := hg1.symm
      subst hg1
      refine x_iast hC dX19_init_358 (q := 359) rfl (n := (128, 0)) rfl (DQ.v6 hD 12 128 rfl (by decide) (by decide)) (j := c) rfl (by omega) (by decide) ?_
      refine x_geqE (DQ.pV hD 12 128 6 rfl (Or.inr (by decide))) (fun gF hD => ?_)
      refine x_aloadr_n hC dX19_init_359 (q := 360) rfl rfl ?_
      refine x_get hC xf_X19_34_16 dX19_init_360 (q := 363) rfl (n := (120, 0)) (DQ.o hD) rfl ?_
      refine x_iload_n hC dX19_init_363 (q := 364) rfl rfl ?_
      refine x_aloadr_n hC dX19_init_364 (q := 365) rfl rfl ?_
      refine x_iload_n hC dX19_init_365 (q := 366) rfl rfl ?_
      refine x_callV hC xv_X19_106 dX19_init_366 (q := 369) rfl rfl (m_bro2 h0 (kT (kIs σ 5 0 y) f) gF (((hD.st hB hG).2.1).1) c hc2) (nn := (0, 0)) rfl rfl rfl (Nat.le_of_ble_eq_true rfl) ⟨(by (try dsimp only); omega), (by (try dsimp only); omega)⟩ ⟨(by (try dsimp only); omega), (by (try dsimp only); omega)⟩ (fun v g1 hp => ?_)
      obtain ⟨sb, rfl, hsb, hg1⟩ := hp
      subst hg1
      refine x_iast hC dX19_init_369 (q := 370) rfl (n := (129, 0)) rfl (DQ.v6 hD 13 129 rfl (by decide) (by decide)) (j := c) rfl (by omega) (by decide) ?_
      refine x_geqE (DQ.pV hD 13 129 6 rfl (Or.inr (by decide))) (fun gF hD => ?_)
      refine x_aloadr_n hC dX19_init_370 (q := 371) rfl rfl ?_
      refine x_get hC xf_X19_37_16 dX19_init_371 (q := 374) rfl (n := (120, 0)) (DQ.o hD) rfl ?_
      refine x_iload_n hC dX19_init_374 (q := 375) rfl rfl ?_
      refine x_aloadr_n hC dX19_init_375 (q := 376) rfl rfl ?_
      refine x_iload_n hC dX19_init_376 (q := 377) rfl rfl ?_
      refine x_iconst hC dX19_init_377 (q := 378) rfl (v := (1)) (by decide) ?_
      refine x_callV hC xv_X19_108 dX19_init_378 (q := 381) rfl rfl ((m_later5 h0 σ gF y f (hD.st hB hG) (hD.fo hFo) c hc2 1 (by decide) ⟨hwk.1, by omega⟩ ((hD.out _ (Or.inr (by decide))).trans hL0))) (nn := (0, 0)) rfl rfl rfl (Nat.le_of_ble_eq_true rfl) ⟨(by (try dsimp only); omega), (by (try dsimp only); omega)⟩ ⟨(by (try dsimp only); omega), (by (try dsimp only); omega)⟩ (fun v g1 hp => ?_)
      obtain ⟨f3, y3, rfl, hg1⟩ := hp
      subst hg1
      refine x_iast hC dX19_init_381 (q := 382) rfl (n := (130, 0)) rfl (DQ.v6 hD 14 130 rfl (by decide) (by decide)) (j := c) rfl (by omega) (by decide) ?_
      refine x_geqE (DQ.pV hD 14 130 6 rfl (Or.inr (by decide))) (fun gF hD => ?_)
      obtain ⟨V, hD, hAI, h3⟩ : ∃ V, DQ gF gB ad ra rr I V M ∧ AI F σ V M (kA σ 63 0) (aI α 1) c ∧ LV3 F σ V c := ⟨_, hD, (((((hAI.kc (by decide)).kc (by decide)).kc (by decide)).kc (by decide)).kc (by decide)).kc (by decide), LV3.mk V c rfl rfl hi rfl hsb rfl⟩
      have h34 := hl.at33 hpP hok hc1
      refine x_aloadr_n hC dX19_init_382 (q := 383) rfl rfl ?_
      refine x_get hC xf_X19_25_16 dX19_init_383 (q := 386) rfl (n := (120, 0)) (DQ.o hD) rfl ?_
      refine x_iload_n hC dX19_init_386 (q := 387) rfl rfl ?_
      refine x_iald hC dX19_init_387 (q := 388) rfl (n := (126, 0)) (DQ.v6 hD 10 126 rfl (by decide) (by decide)) (j := c) rfl (by omega) (by decide) ?_
      refine x_meet (pc2 := 406) (S := (fun x : Int => (136 + 2643 * aI α 1 + 70 * (c + 1), 771 + 16488 * aI α 1 + 460 * (c + 1), kmix (kT (kIs σ 5 0 y3) f3) gF, ([some (.ref ad), some (.ref (kA σ 0 0)), some (.ref aa), some (.int (nI c)), u4, u5] : xL), ([.int (iI x)] : List Value)))) (Inv := fun x => (kO σ 0 c 0 = none ∧ x = -1) ∨ ∃ q, kO σ 0 c 0 = some q ∧ q < aI α 1 ∧ x = kI σ 41 q) (fun ih => ?_) (fun xx hi => ?_)
      · rw [h3.1.1]
        refine x_if_ge hC dX19_init_388 (q := 391) rfl (tgt := 395) rfl (fun h388 => ?_) (fun h388 => ?_)
        · obtain ⟨qq, hno⟩ : ∃ q, kO σ 0 c 0 = some q := by
            cases e : kO σ 0 c 0 with
            | none => unfold kKil at h388; rw [e] at h388; exact absurd h388 (by decide)
            | some q => exact ⟨q, rfl⟩
          have hqq : qq < aI α 1 := by rw [← hl.2.1]; exact (hpP.2.1 c qq hc2 hno).1
          have hkq : kKil σ c = nI qq := by unfold kKil; rw [hno]
          have hx395 := h388
          refine x_aloadr_n hC dX19_init_395 (q := 396) rfl rfl ?_
          refine x_get hC xf_X19_16_16 dX19_init_396 (q := 399) rfl (n := (120, 0)) (DQ.o hD) rfl ?_
          refine x_aloadr_n hC dX19_init_399 (q := 400) rfl rfl ?_
          refine x_get hC xf_X19_25_16 dX19_init_400 (q := 403) rfl (n := (120, 0)) (DQ.o hD) rfl ?_
          refine x_iload_n hC dX19_init_403 (q := 404) rfl rfl ?_
          refine x_iald hC dX19_init_404 (q := 405) rfl (n := (126, 0)) (DQ.v6 hD 10 126 rfl (by decide) (by decide)) (j := c) rfl (by omega) (by decide) ?_
          rw [h3.1.1, hkq]
          refine x_iald hC dX19_init_405 (q := 406) rfl (n := (123, 0)) (DQ.v3 hD 7 123 rfl (by decide) (by decide)) (j := qq) rfl (by omega) (by decide) ?_
          first
            | exact x_widen (by (try dsimp only); omega) (by (try dsimp only); omega) (ih (-1) (Or.inl ⟨hno, rfl⟩))
            | (rw [(hAI.2.1 qq hqq).2.2.1]; exact x_widen (by (try dsimp only); omega) (by (try dsimp only); omega) (ih (kI σ 41 qq) (Or.inr ⟨qq, hno, hqq, rfl⟩)))
        have hno : kO σ 0 c 0 = none := by
          cases e : kO σ 0 c 0 with
          | none => rfl
          | some q =>
            unfold kKil at h388; rw [e] at h388
            exact absurd (nI_le (a := 0) (b := q) (Nat.zero_le _) (by have := (hpP.2.1 c q hc2 e).1; rw [hl.2.1] at this; omega)) h388
        refine x_iconst hC dX19_init_391 (q := 392) rfl (v := (-1)) (by decide) ?_
        refine x_goto hC dX19_init_392 (tgt := 406) rfl ?_
        first
          | exact x_widen (by (try dsimp only); omega) (by (try dsimp only); omega) (ih (-1) (Or.inl ⟨hno, rfl⟩))
          | (rw [(hAI.2.1 qq hqq).2.2.1]; exact x_widen (by (try dsimp only); omega) (by (try dsimp only); omega) (ih (kI σ 41 qq) (Or.inr ⟨qq, hno, hqq, rfl⟩)))
      obtain ⟨hh, hhx⟩ : ∃ z, z = xx := ⟨_, rfl⟩
      subst hhx
      dsimp only at hi ⊢
      have hhb : -1 ≤ hh ∧ hh ≤ 20 := by
        rcases hi with ⟨-, e⟩ | ⟨q, -, e1, e2⟩
        · omega
        · have := hG.2.2.2.1.2 q (by rw [hl.2.1]; exact e1)
          omega
      refine x_istore hC dX19_init_406 (q := 408) rfl rfl ?_
      refine x_iconst hC dX19_init_408 (q := 409) rfl (v := (0)) (by decide) ?_
      refine x_istore hC dX19_init_409 (q := 411) rfl rfl ?_
      refine x_loop (S := (fun x : Nat × xG × aEnv × Nat => (136 + 2643 * aI α 1 + 70 * (c + 1), 771 + 16488 * aI α 1 + 460 * (c + 1), kmix (kT (kIs σ 5 0 y3) x.2.2.1) x.2.1, ([some (.ref ad), some (.ref (kA σ 0 0)), some (.ref aa), some (.int (nI c)), some (.int (iI hh)), some (.int (nI x.1))] : xL), ([] : List Value)))) (Inv := fun x => x.1 ≤ 4 ∧ ∃ M, DQ x.2.1 gB ad ra rr I V M ∧ AI F σ V M (kA σ 63 0) (aI α 1) c ∧ LVg F σ M c x.1) (μ := fun x => 4 - x.1) ?_ (0, gF, f3, 0) ⟨Nat.zero_le _, M, hD, hAI, fun q _ _ i hi => absurd hi (Nat.not_lt_zero i)⟩
      intro x hj ih2
      obtain ⟨j, gF, f6, u9⟩ := x
      obtain ⟨hj, M, hD, hAI, hLV⟩ := hj
      dsimp only at hj hD hAI hLV ih2 ⊢
      refine x_iload hC dX19_init_411 (q := 413) rfl rfl ?_
      refine x_if_lt hC dX19_init_413 (q := 416) rfl (tgt := 488) rfl (fun h413 => ?_) (fun h413 => ?_)
      · have hM4 : LVg F σ M c 4 := fun q e1 e2 => by
          rcases hi with ⟨e, -⟩ | ⟨q2, e, -, e3⟩
          · rw [e] at e1; cases e1
          · rw [e] at e1; cases e1
            have := (iI_lt (a := hh) (b := 0) ⟨by omega, by omega⟩ ⟨by decide, by decide⟩).mp h413
            omega
        refine x_iinc hC dX19_init_488 (q := 491) rfl rfl (v := nI (c + 1)) (nI_1 c) ?_
        refine x_goto hC dX19_init_491 (tgt := 295) rfl ?_
        exact ih (c + 1, gF, f6, y3, _, _) ⟨by (try dsimp only); omega, V, M, hD, hAI.child h3 hM4⟩ (by (try dsimp only); omega)
      have hh0 : 0 ≤ hh := Int.not_lt.mp (fun w => h413 ((iI_lt (a := hh) (b := 0) ⟨by omega, by omega⟩ ⟨by decide, by decide⟩).mpr w))
      obtain ⟨qq, hno, hqq, e41⟩ : ∃ q, kO σ 0 c 0 = some q ∧ q < aI α 1 ∧ hh = kI σ 41 q := by
        rcases hi with ⟨-, e⟩ | e
        · omega
        · exact e
      have hp33 : 0 ≤ kI σ 33 c ∧ kI σ 33 c ≤ 5 := by
        obtain ⟨p, e1, e2⟩ := (hpP.2.1 c qq hc2 hno).2
        omega
      refine x_iload hC dX19_init_416 (q := 418) rfl rfl ?_
      refine x_iconst hC dX19_init_418 (q := 419) rfl (v := (4)) (by decide) ?_
      refine x_icmp_ge hC dX19_init_419 (q := 422) rfl (tgt := 488) rfl (fun h419 => ?_) (fun h419 => ?_)
      · have hM4 : LVg F σ M c 4 := by
          have := (nI_leI (a := 4) (b := j) (by omega) (by omega)).mp h419
          rw [show (4 : Nat) = j by omega]; exact hLV
        refine x_iinc hC dX19_init_488 (q := 491) rfl rfl (v := nI (c + 1)) (nI_1 c) ?_
        refine x_goto hC dX19_init_491 (tgt := 295) rfl ?_
        exact ih (c + 1, gF, f6, y3, _, _) ⟨by (try dsimp only); omega, V, M, hD, hAI.child h3 hM4⟩ (by (try dsimp only); omega)
      have hj1 : j < 4 := Nat.not_le.mp (fun w => h419 (nI_le (a := 4) w (by omega)))
      refine x_aloadr_n hC dX19_init_422 (q := 423) rfl rfl ?_
      refine x_get hC xf_X19_46_16 dX19_init_423 (q := 426) rfl (n := (120, 0)) (DQ.o hD) rfl ?_
      refine x_iload_n hC dX19_init_426 (q := 427) rfl rfl ?_
      refine x_aald hC dX19_init_427 (q := 428) rfl (n := (132, 0)) (DQ.r6 hD) (j := c) rfl (by omega) (by decide) rfl ?_
      refine x_iload hC dX19_init_428 (q := 430) rfl rfl ?_
      refine x_aloadr_n hC dX19_init_430 (q := 431) rfl rfl ?_
      refine x_iload_n hC dX19_init_431 (q := 432) rfl rfl ?_
      refine x_bipush hC dX19_init_432 (q := 434) rfl (v := (20)) (by decide) ?_
      refine x_iload hC dX19_init_434 (q := 436) rfl rfl ?_
      refine x_iload hC dX19_init_436 (q := 438) rfl rfl ?_
      refine x_iadd hC dX19_init_438 (q := 439) rfl ?_
      refine x_callS hC xv_X19_65 dX19_init_439 (q := 442) rfl rfl (m_J0_min h0 _ 20 (iI hh + nI j)) rfl (Nat.le_of_ble_eq_true rfl) ⟨(by (try dsimp only); omega), (by (try dsimp only); omega)⟩ ⟨(by (try dsimp only); omega), (by (try dsimp only); omega)⟩ (fun v g1 hp => ?_)
      rw [mn20 hhb hj1] at hp
      obtain ⟨rfl, hg1⟩ := hp
      replace hg1 := hg1.symm
      subst hg1
      refine x_aloadr_n hC dX19_init_442 (q := 443) rfl rfl ?_
      refine x_get hC xf_X19_28_16 dX19_init_443 (q := 446) rfl (n := (120, 0)) (DQ.o hD) rfl ?_
      refine x_iload_n hC dX19_init_446 (q := 447) rfl rfl ?_
      refine x_iald hC dX19_init_447 (q := 448) rfl (n := (127, 0)) (DQ.v6 hD 11 127 rfl (by decide) (by decide)) (j := c) rfl (by omega) (by decide) ?_
      rw [h3.1.2.1]
      refine x_callV hC xv_X19_110 dX19_init_448 (q := 451) rfl rfl (m_X2_rings h0 (kIs σ 5 0 y3) gF f6 (hD.st hB hG).1 (((hD.st hB hG).2.1).1) c hc2 (iI (min 20 (hh + (j : Nat)))) (iI (kI σ 33 c)) (by rw [iI_toInt ⟨by omega, by omega⟩]; omega) (by rw [iI_toInt ⟨by omega, by omega⟩]; omega)) (nn := (0, 0)) rfl rfl rfl (Nat.le_of_ble_eq_true rfl) ⟨(by (try dsimp only); omega), (by (try dsimp only); omega)⟩ ⟨(by (try dsimp only); omega), (by (try dsimp only); omega)⟩ (fun v g1 hp => ?_)
      obtain ⟨f7, rfl, hg1⟩ := hp
      subst hg1
      rw [show kTemp F (kIs σ 5 0 y3) c (iI (min 20 (hh + (j : Nat)))) (iI (kI σ 33 c)) = kTemp F σ c (iI (min 20 (kI σ 41 qq + (j : Nat)))) (iI (kI σ 33 c)) from by rw [← e41]; rfl]
      refine x_iast hC dX19_init_451 (q := 452) rfl (n := (133, c)) rfl (DQ.m6 hD (by omega)) (j := j) rfl hj1 (by decide) ?_
      refine x_geqE (DQ.pM hD 16 133 c 6 (Or.inl ⟨rfl, rfl, rfl⟩) (by omega)) (fun gF hD => ?_)
      refine x_aloadr_n hC dX19_init_452 (q := 453) rfl rfl ?_
      refine x_get hC xf_X19_49_16 dX19_init_453 (q := 456) rfl (n := (120, 0)) (DQ.o hD) rfl ?_
      refine x_iload_n hC dX19_init_456 (q := 457) rfl rfl ?_
      refine x_aald hC dX19_init_457 (q := 458) rfl (n := (134, 0)) (DQ.r7 hD) (j := c) rfl (by omega) (by decide) rfl ?_
      refine x_iload hC dX19_init_458 (q := 460) rfl rfl ?_
      refine x_aloadr_n hC dX19_init_460 (q := 461) rfl rfl ?_
      refine x_iload_n hC dX19_init_461 (q := 462) rfl rfl ?_
      refine x_bipush hC dX19_init_462 (q := 464) rfl (v := (20)) (by decide) ?_
      refine x_iload hC dX19_init_464 (q := 466) rfl rfl ?_
      refine x_iload hC dX19_init_466 (q := 468) rfl rfl ?_
      refine x_iadd hC dX19_init_468 (q := 469) rfl ?_
      refine x_callS hC xv_X19_65 dX19_init_469 (q := 472) rfl rfl (m_J0_min h0 _ 20 (iI hh + nI j)) rfl (Nat.le_of_ble_eq_true rfl) ⟨(by (try dsimp only); omega), (by (try dsimp only); omega)⟩ ⟨(by (try dsimp only); omega), (by (try dsimp only); omega)⟩ (fun v g1 hp => ?_)
      rw [mn20 hhb hj1] at hp
      obtain ⟨rfl, hg1⟩ := hp
      replace hg1 := hg1.symm
      subst hg1
      refine x_aloadr_n hC dX19_init_472 (q := 473) rfl rfl ?_
      refine x_get hC xf_X19_28_16 dX19_init_473 (q := 476) rfl (n := (120, 0)) (DQ.o hD) rfl ?_
      refine x_iload_n hC dX19_init_476 (q := 477) rfl rfl ?_
      refine x_iald hC dX19_init_477 (q := 478) rfl (n := (127, 0)) (DQ.v6 hD 11 127 rfl (by decide) (by decide)) (j := c) rfl (by omega) (by decide) ?_
      rw [h3.1.2.1]
      refine x_callV hC xv_X19_113 dX19_init_478 (q := 481) rfl rfl (m_X2_cracks h0 (kIs σ 5 0 y3) gF f7 (hD.st hB hG).1 (((hD.st hB hG).2.1).1) c hc2 (iI (min 20 (hh + (j : Nat)))) (iI (kI σ 33 c)) (by rw [iI_toInt ⟨by omega, by omega⟩]; omega) (by rw [iI_toInt ⟨by omega, by omega⟩]; omega)) (nn := (0, 0)) rfl rfl rfl (Nat.le_of_ble_eq_true rfl) ⟨(by (try dsimp only); omega), (by (try dsimp only); omega)⟩ ⟨(by (try dsimp only); omega), (by (try dsimp only); omega)⟩ (fun v g1 hp => ?_)
      obtain ⟨f8, rfl, hg1⟩ := hp
      subst hg1
      rw [show kCrack F (kIs σ 5 0 y3) c (iI (min 20 (hh + (j : Nat)))) (iI (kI σ 33 c)) = kCrack F σ c (iI (min 20 (kI σ 41 qq + (j : Nat)))) (iI (kI σ 33 c)) from by rw [← e41]; rfl]
      refine x_iast hC dX19_init_481 (q := 482) rfl (n := (135, c)) rfl (DQ.m7 hD (by omega)) (j := j) rfl hj1 (by decide) ?_
      refine x_geqE (DQ.pM hD 17 135 c 6 (Or.inr (Or.inl ⟨rfl, rfl, rfl⟩)) (by omega)) (fun gF hD => ?_)
      refine x_iinc hC dX19_init_482 (q := 485) rfl rfl (v := nI (j + 1)) (nI_1 j) ?_
      refine x_goto hC dX19_init_485 (tgt := 411) rfl ?_
      exact ih2 (j + 1, gF, f8, 0) ⟨by (try dsimp only); omega, _, hD, (hAI.km (by decide)).km (by decide), hLV.step hno rfl rfl⟩ (by (try dsimp only); omega)
    have hq1 : q < aI α 1 := Nat.not_le.mp (fun w => h225 (nI_le w (by omega)))
    have hq2 : q < kA σ 62 0 := by rw [hl.2.1]; exact hq1
    refine x_aloadr_n hC dX19_init_228 (q := 229) rfl rfl ?_
    refine x_get hC xf_X19_7_16 dX19_init_229 (q := 232) rfl (n := (120, 0)) (DQ.o hD) rfl ?_
    refine x_iload_n hC dX19_init_232 (q := 233) rfl rfl ?_
    refine x_aloadr_n hC dX19_init_233 (q := 234) rfl rfl ?_
    refine x_iload_n hC dX19_init_234 (q := 235) rfl rfl ?_
    refine x_iconst hC dX19_init_235 (q := 236) rfl (v := (0)) (by decide) ?_
    refine x_callV hC xv_X19_95 dX19_init_236 (q := 239) rfl rfl (m_X2_kiln_0 h0 (kT (kIs σ 5 0 y) f) gF (((hD.st hB hG).2.1).1) q hq2) (nn := (0, 0)) rfl rfl rfl (Nat.le_of_ble_eq_true rfl) ⟨(by (try dsimp only); omega), (by (try dsimp only); omega)⟩ ⟨(by (try dsimp only); omega), (by (try dsimp only); omega)⟩ (fun v g1 hp => ?_)
    obtain ⟨rfl, hg1⟩ := hp
    replace hg1 := hg1.symm
    subst hg1
    refine x_iast hC dX19_init_239 (q := 240) rfl (n := (121, 0)) rfl (DQ.v3 hD 5 121 rfl (by decide) (by decide)) (j := q) rfl (by omega) (by decide) ?_
    refine x_geqE (DQ.pV hD 5 121 3 rfl (Or.inl (by decide))) (fun gF hD => ?_)
    refine x_aloadr_n hC dX19_init_240 (q := 241) rfl rfl ?_
    refine x_get hC xf_X19_13_16 dX19_init_241 (q := 244) rfl (n := (120, 0)) (DQ.o hD) rfl ?_
    refine x_iload_n hC dX19_init_244 (q := 245) rfl rfl ?_
    refine x_aloadr_n hC dX19_init_245 (q := 246) rfl rfl ?_
    refine x_iload_n hC dX19_init_246 (q := 247) rfl rfl ?_
    refine x_iconst hC dX19_init_247 (q := 248) rfl (v := (1)) (by decide) ?_
    refine x_callV hC xv_X19_95 dX19_init_248 (q := 251) rfl rfl (m_X2_kiln_1 h0 (kT (kIs σ 5 0 y) f) gF (((hD.st hB hG).2.1).1) q hq2) (nn := (0, 0)) rfl rfl rfl (Nat.le_of_ble_eq_true rfl) ⟨(by (try dsimp only); omega), (by (try dsimp only); omega)⟩ ⟨(by (try dsimp only); omega), (by (try dsimp only); omega)⟩ (fun v g1 hp => ?_)
    obtain ⟨rfl, hg1⟩ := hp
    replace hg1 := hg1.symm
    subst hg1
    refine x_iast hC dX19_init_251 (q := 252) rfl (n := (122, 0)) rfl (DQ.v3 hD 6 122 rfl (by decide) (by decide)) (j := q) rfl (by omega) (by decide) ?_
    refine x_geqE (DQ.pV hD 6 122 3 rfl (Or.inl (by decide))) (fun gF hD => ?_)
    refine x_aloadr_n hC dX19_init_252 (q := 253) rfl rfl ?_
    refine x_get hC xf_X19_16_16 dX19_init_253 (q := 256) rfl (n := (120, 0)) (DQ.o hD) rfl ?_
    refine x_iload_n hC dX19_init_256 (q := 257) rfl rfl ?_
    refine x_aloadr_n hC dX19_init_257 (q := 258) rfl rfl ?_
    refine x_iload_n hC dX19_init_258 (q := 259) rfl rfl ?_
    refine x_iconst hC dX19_init_259 (q := 260) rfl (v := (2)) (by decide) ?_
    refine x_callV hC xv_X19_95 dX19_init_260 (q := 263) rfl rfl (m_X2_kiln_2 h0 (kT (kIs σ 5 0 y) f) gF (((hD.st hB hG).2.1).1) q hq2) (nn := (0, 0)) rfl rfl rfl (Nat.le_of_ble_eq_true rfl) ⟨(by (try dsimp only); omega), (by (try dsimp only); omega)⟩ ⟨(by (try dsimp only); omega), (by (try dsimp only); omega)⟩ (fun v g1 hp => ?_)
    obtain ⟨rfl, hg1⟩ := hp
    replace hg1 := hg1.symm
    subst hg1
    refine x_iast hC dX19_init_263 (q := 264) rfl (n := (123, 0)) rfl (DQ.v3 hD 7 123 rfl (by decide) (by decide)) (j := q) rfl (by omega) (by decide) ?_
    refine x_geqE (DQ.pV hD 7 123 3 rfl (Or.inl (by decide))) (fun gF hD => ?_)
    refine x_aloadr_n hC dX19_init_264 (q := 265) rfl rfl ?_
    refine x_get hC xf_X19_19_16 dX19_init_265 (q := 268) rfl (n := (120, 0)) (DQ.o hD) rfl ?_
    refine x_iload_n hC dX19_init_268 (q := 269) rfl rfl ?_
    refine x_aloadr_n hC dX19_init_269 (q := 270) rfl rfl ?_
    refine x_iload_n hC dX19_init_270 (q := 271) rfl rfl ?_
    refine x_iconst hC dX19_init_271 (q := 272) rfl (v := (3)) (by decide) ?_
    refine x_callV hC xv_X19_95 dX19_init_272 (q := 275) rfl rfl (m_X2_kiln_3 h0 (kIs σ 5 0 y) gF f (hD.st hB hG).1 (((hD.st hB hG).2.1).1) q hq2) (nn := (0, 0)) rfl rfl rfl (Nat.le_of_ble_eq_true rfl) ⟨(by (try dsimp only); omega), (by (try dsimp only); omega)⟩ ⟨(by (try dsimp only); omega), (by (try dsimp only); omega)⟩ (fun v g1 hp => ?_)
    obtain ⟨f3, rfl, hg1⟩ := hp
    subst hg1
    refine x_iast hC dX19_init_275 (q := 276) rfl (n := (124, 0)) rfl (DQ.v3 hD 8 124 rfl (by decide) (by decide)) (j := q) rfl (by omega) (by decide) ?_
    refine x_geqE (DQ.pV hD 8 124 3 rfl (Or.inl (by decide))) (fun gF hD => ?_)
    refine x_aloadr_n hC dX19_init_276 (q := 277) rfl rfl ?_
    refine x_get hC xf_X19_22_16 dX19_init_277 (q := 280) rfl (n := (120, 0)) (DQ.o hD) rfl ?_
    refine x_iload_n hC dX19_init_280 (q := 281) rfl rfl ?_
    refine x_aloadr_n hC dX19_init_281 (q := 282) rfl rfl ?_
    refine x_iload_n hC dX19_init_282 (q := 283) rfl rfl ?_
    refine x_callV hC xv_X19_97 dX19_init_283 (q := 286) rfl rfl (m_fired5 h0 σ gF y f3 (hD.st hB hG) (hD.fo hFo) hwk q hq2) (nn := (0, 0)) rfl rfl rfl (Nat.le_of_ble_eq_true rfl) ⟨(by (try dsimp only); omega), (by (try dsimp only); omega)⟩ ⟨(by (try dsimp only); omega), (by (try dsimp only); omega)⟩ (fun v g1 hp => ?_)
    obtain ⟨f4, y4, xf, rfl, hfnd, hg1⟩ := hp
    subst hg1
    refine x_iast hC dX19_init_286 (q := 287) rfl (n := (125, 0)) rfl (DQ.v3 hD 9 125 rfl (by decide) (by decide)) (j := q) rfl (by omega) (by decide) ?_
    refine x_geqE (DQ.pV hD 9 125 3 rfl (Or.inl (by decide))) (fun gF hD => ?_)
    refine x_iinc hC dX19_init_287 (q := 290) rfl rfl (v := nI (q + 1)) (nI_1 q) ?_
    refine x_goto hC dX19_init_290 (tgt := 220) rfl ?_
    exact ih (q + 1, gF, f4, y4, _) ⟨by (try dsimp only); omega, _, hD, hAI.kq rfl rfl rfl rfl hfnd⟩ (by (try dsimp only); omega)
  have hk1 : k < kA σ 63 0 := Nat.not_le.mp (fun w => h178 (nI_le w (by omega)))
  refine x_iconst hC dX19_init_181 (q := 182) rfl (v := (0)) (by decide) ?_
  refine x_istore hC dX19_init_182 (q := 184) rfl rfl ?_
  refine x_loop (S := (fun x : Nat × xG => ((136 : Nat), (771 : Nat), kmix (kT (kIs σ 5 0 y2) f2) x.2, ([some (.ref ad), some (.ref (kA σ 0 0)), some (.ref aa), some (.int (nI k)), some (.int (nI x.1)), none] : xL), ([] : List Value)))) (Inv := fun x => x.1 ≤ 4 ∧ ∃ M, DQ x.2 gB ad ra rr I V M ∧ AI F σ V M k 0 0 ∧ ∀ i, i < x.1 → M 18 k i = iI (kV σ 2 k i)) (μ := fun x => 4 - x.1) ?_ (0, gF) ⟨Nat.zero_le _, M, hD, hAI, fun i q => absurd q (Nat.not_lt_zero i)⟩
  intro x hj ih2
  obtain ⟨j, gF⟩ := x
  obtain ⟨hj, M, hD, hAI, hrow⟩ := hj
  dsimp only at hj hD hAI hrow ih2 ⊢
  refine x_iload hC dX19_init_184 (q := 186) rfl rfl ?_
  refine x_iconst hC dX19_init_186 (q := 187) rfl (v := (4)) (by decide) ?_
  refine x_icmp_ge hC dX19_init_187 (q := 190) rfl (tgt := 212) rfl (fun h187 => ?_) (fun h187 => ?_)
  · have hj4 : j = 4 := by
      have := (nI_leI (a := 4) (b := j) (by omega) (by omega)).mp h187
      omega
    subst hj4
    refine x_iinc hC dX19_init_212 (q := 215) rfl rfl (v := nI (k + 1)) (nI_1 k) ?_
    refine x_goto hC dX19_init_215 (tgt := 173) rfl ?_
    exact ih (k + 1, gF, _) ⟨by (try dsimp only); omega, M, hD, hAI.row hrow⟩ (by (try dsimp only); omega)
  have hj1 : j < 4 := Nat.not_le.mp (fun w => h187 (nI_le (a := 4) w (by omega)))
  refine x_aloadr_n hC dX19_init_190 (q := 191) rfl rfl ?_
  refine x_get hC xf_X19_52_16 dX19_init_191 (q := 194) rfl (n := (120, 0)) (DQ.o hD) rfl ?_
  refine x_iload_n hC dX19_init_194 (q := 195) rfl rfl ?_
  refine x_aald hC dX19_init_195 (q := 196) rfl (n := (136, 0)) (DQ.r8 hD) (j := k) rfl (by omega) (by decide) rfl ?_
  refine x_iload hC dX19_init_196 (q := 198) rfl rfl ?_
  refine x_aloadr_n hC dX19_init_198 (q := 199) rfl rfl ?_
  refine x_iload_n hC dX19_init_199 (q := 200) rfl rfl ?_
  refine x_iload hC dX19_init_200 (q := 202) rfl rfl ?_
  refine x_callV hC xv_X19_88 dX19_init_202 (q := 205) rfl rfl (m_X2_kept h0 (kT (kIs σ 5 0 y2) f2) gF (((hD.st hB hG).2.1).1) k j hk1 hj1) (nn := (0, 0)) rfl rfl rfl (Nat.le_of_ble_eq_true rfl) ⟨(Nat.le_of_ble_eq_true rfl), (Nat.le_of_ble_eq_true rfl)⟩ ⟨(Nat.le_of_ble_eq_true rfl), (Nat.le_of_ble_eq_true rfl)⟩ (fun v g1 hp => ?_)
  obtain ⟨rfl, hg1⟩ := hp
  replace hg1 := hg1.symm
  subst hg1
  refine x_iast hC dX19_init_205 (q := 206) rfl (n := (137, k)) rfl (DQ.m8 hD (by omega)) (j := j) rfl hj1 (by decide) ?_
  refine x_geqE (DQ.pM hD 18 137 k 40 (Or.inr (Or.inr ⟨rfl, rfl, rfl⟩)) (by omega)) (fun gF hD => ?_)
  refine x_iinc hC dX19_init_206 (q := 209) rfl rfl (v := nI (j + 1)) (nI_1 j) ?_
  refine x_goto hC dX19_init_209 (tgt := 184) rfl ?_
  refine ih2 (j + 1, gF) ⟨by (try dsimp only); omega, _, hD, hAI.k18 (Nat.le_refl _), fun i hij => ?_⟩ (by (try dsimp only); omega)
  show k2s (M 18) k j _ k i = _
  by_cases e : i = j
  · subst e; rw [k2s_at]; rfl
  · rw [k2s_p _ _ _ _ e]; exact hrow i (by (try dsimp only at hij); omega)
