/-! the class's object is made -/
def K00 (A : Nat → Nat) (d0 : Nat) : KS := (fun f _ => if f = 2 then -1 else 0, fun f _ => match f with
  | 0 => A 0 | 1 => A 1 | 2 => A 2 | 3 => A 3 | 4 => A 4 | 6 => A 6 | 8 => A 8 | 9 => A 9 | 10 => A 10 | 13 => A 13 | 16 => A 16 | 18 => A 18
  | 5 => d0 | 7 => d0 | 11 => d0 | 14 => d0 | 17 => d0 | _ => 0, fun _ _ _ => none, fun _ _ _ => 0, fun f _ => if f = 1 then 1 else 0)
theorem K00_i (A : Nat → Nat) (d0 k i : Nat) : kenc (K00 A d0) k (i + 1) = none := by
  unfold kenc
  split <;> simp [K00, kA]
def K0n (k : Nat) : Bool := Nat.ble k 4 || (Nat.beq k 6 || (Nat.ble 8 k && Nat.ble k 10 || (Nat.beq k 13 || (Nat.beq k 16 || Nat.beq k 18))))
theorem K00_n (A : Nat → Nat) (d0 k : Nat) (h : K0n k = false) : kenc (K00 A d0) k 0 = none := by
  unfold kenc
  split <;> first | rfl | (simp [K00, kA]; done) | (exact absurd h (by decide))

set_option maxHeartbeats 4000000 in
set_option maxRecDepth 100000 in
theorem m_X4_init {l : Launch} {s0 : State} {D : va_G} (h0 : x0 l s0 D) (g : xG) {a : Nat} (hn : g (8, 0) = some (a, xO 3 [.null])) (hf : g (9, 0) = none) : xMet l s0 D yX4_init cX4_init 1 none (xr 1 1 10 25) [.ref a] g (fun r g1 => ∃ b, r = none ∧ g1 = xu (xu g (9, 0) (some (b, xAl 10 (fun _ => 0)))) (8, 0) (some (a, xO 3 [.ref b]))) := by
  refine xMet.of h0 (by decide +kernel) rfl ?_
  intro zp ze zs zm za zb zf zc hC hr hnm
  refine x_aloadr_n hC dX4_init_0 (q := 1) rfl rfl ?_
  refine x_objInit hC q215 q124 q125 dX4_init_1 (q := 4) rfl (by decide) (Nat.le_of_ble_eq_true rfl) (Nat.le_of_ble_eq_true rfl) ?_
  refine x_aloadr_n hC dX4_init_4 (q := 5) rfl rfl ?_
  refine x_bipush hC dX4_init_5 (q := 7) rfl (v := (10)) (by decide) ?_
  refine x_newa hC (at0 := .long) (N := 10) (x := (10, .inr (.inl (fun _ => 0)))) (9, 0) q222 dX4_init_7 (q := 9) rfl rfl hf rfl (by decide) (fun _ => rfl) (Nat.le_of_ble_eq_true rfl) (Nat.le_of_ble_eq_true rfl) (fun a_7 => ?_)
  refine x_putF hC hnm (n := (8, 0)) xff_X4_7_3 xd_3 rfl dX4_init_9 (q := 12) rfl (by rw [xu_ne (n_fst rfl)]; exact hn) rfl rfl rfl ?_
  exact x_vret hC hr dX4_init_12 (Nat.le_of_ble_eq_true rfl) (Nat.le_of_ble_eq_true rfl) ⟨a_7, rfl, rfl⟩

set_option maxHeartbeats 4000000 in
set_option maxRecDepth 100000 in
theorem m_X2_init {l : Launch} {s0 : State} {D : va_G} (h0 : x0 l s0 D) (g : xG) {kb d0 : Nat} (hkb : g (0, 0) = some (kb, xO 1 [.null, .int 0, .null, .null, .int 0, .int 0, .int 0, .null, .null, .null, .int 0, .int 0, .null, .long 0, .null, .int 0])) (hf1 : ∀ n : xN, Nat.blt n.1 40 = true → n ≠ (0, 0) → g n = none) (hz : xE0 s0 g d0) : xMet l s0 D yX2_init cX2_init 1 none (xr 5 12 1760 130) [.ref kb] g (fun r g1 => ∃ A, r = none ∧ A 0 = kb ∧ g1 = kmix (K00 A d0) g) := by
  refine xMet.of h0 (by decide +kernel) rfl ?_
  intro zp ze zs zm za zb zf zc hC hr hnm
  refine x_aloadr_n hC dX2_init_0 (q := 1) rfl rfl ?_
  refine x_objInit hC q123 q124 q125 dX2_init_1 (q := 4) rfl (by decide) (Nat.le_of_ble_eq_true rfl) (Nat.le_of_ble_eq_true rfl) ?_
  obtain ⟨g0, hg0⟩ : ∃ x, x = g := ⟨_, rfl⟩
  refine x_geq hg0.symm ?_
  have e0_0 : g0 (0, 0) = some (kb, xO 1 [.null, .int 0, .null, .null, .int 0, .int 0, .int 0, .null, .null, .null, .int 0, .int 0, .null, .long 0, .null, .int 0]) := by rw [hg0]; exact hkb
  have o0 : ∀ n : xN, n ≠ (0, 0) → g0 n = g n := fun n _ => by rw [hg0]
  refine x_aloadr_n hC dX2_init_4 (q := 5) rfl rfl ?_
  refine x_sipush hC dX2_init_5 (q := 8) rfl (v := (1600)) (by decide) ?_
  refine x_newa hC (at0 := .char) (N := 1600) (x := (1600, .inl (fun _ => 0))) (1, 0) q158 dX2_init_8 (q := 10) rfl rfl (by (repeat rw [xu_ne (n_fst rfl)]); rw [o0 _ (n_fst rfl)]; exact hf1 _ rfl (n_fst rfl)) rfl (by decide) (fun _ => rfl) (Nat.le_of_ble_eq_true rfl) (Nat.le_of_ble_eq_true rfl) (fun a_8 => ?_)
  refine x_putF hC hnm (n := (0, 0)) xff_X2_9_1 xd_1 rfl dX2_init_10 (q := 13) rfl (by (repeat rw [xu_ne (n_fst rfl)]); exact e0_0) rfl rfl rfl ?_
  obtain ⟨g1, hg1⟩ : ∃ x, x = xu (xu g0 (1, 0) (some (a_8, xAi .char 1600 (fun _ => 0)))) (0, 0) (some (kb, xO 1 [.ref a_8, .int 0, .null, .null, .int 0, .int 0, .int 0, .null, .null, .null, .int 0, .int 0, .null, .long 0, .null, .int 0])) := ⟨_, rfl⟩
  refine x_geq hg1.symm ?_
  have e1_0 : g1 (0, 0) = some (kb, xO 1 [.ref a_8, .int 0, .null, .null, .int 0, .int 0, .int 0, .null, .null, .null, .int 0, .int 0, .null, .long 0, .null, .int 0]) := by
    rw [hg1]
    (repeat rw [xu_ne (n_fst rfl)])
    exact xu_eq _ _ _
  have e1_1 : g1 (1, 0) = some (a_8, xAi .char 1600 (fun _ => 0)) := by
    rw [hg1]
    (repeat rw [xu_ne (n_fst rfl)])
    exact xu_eq _ _ _
  have o1 : ∀ n : xN, n ≠ (0, 0) → n ≠ (1, 0) → g1 n = g n := fun n q0 q1 => by
    rw [hg1]
    (repeat rw [xu_ne (by assumption)])
    exact o0 n q0
  refine x_aloadr_n hC dX2_init_13 (q := 14) rfl rfl ?_
  refine x_bipush hC dX2_init_14 (q := 16) rfl (v := (6)) (by decide) ?_
  refine x_newa hC (at0 := .int) (N := 6) (x := (6, .inl (fun _ => 0))) (2, 0) q159 dX2_init_16 (q := 18) rfl rfl (by (repeat rw [xu_ne (n_fst rfl)]); rw [o1 _ (n_fst rfl) (n_fst rfl)]; exact hf1 _ rfl (n_fst rfl)) rfl (by decide) (fun _ => rfl) (Nat.le_of_ble_eq_true rfl) (Nat.le_of_ble_eq_true rfl) (fun a_16 => ?_)
  refine x_putF hC hnm (n := (0, 0)) xff_X2_13_1 xd_1 rfl dX2_init_18 (q := 21) rfl (by (repeat rw [xu_ne (n_fst rfl)]); exact e1_0) rfl rfl rfl ?_
  obtain ⟨g2, hg2⟩ : ∃ x, x = xu (xu g1 (2, 0) (some (a_16, xAi .int 6 (fun _ => 0)))) (0, 0) (some (kb, xO 1 [.ref a_8, .int 0, .ref a_16, .null, .int 0, .int 0, .int 0, .null, .null, .null, .int 0, .int 0, .null, .long 0, .null, .int 0])) := ⟨_, rfl⟩
  refine x_geq hg2.symm ?_
  have e2_0 : g2 (0, 0) = some (kb, xO 1 [.ref a_8, .int 0, .ref a_16, .null, .int 0, .int 0, .int 0, .null, .null, .null, .int 0, .int 0, .null, .long 0, .null, .int 0]) := by
    rw [hg2]
    (repeat rw [xu_ne (n_fst rfl)])
    exact xu_eq _ _ _
  have e2_1 : g2 (1, 0) = some (a_8, xAi .char 1600 (fun _ => 0)) := by
    rw [hg2]
    (repeat rw [xu_ne (n_fst rfl)])
    exact e1_1
  have e2_2 : g2 (2, 0) = some (a_16, xAi .int 6 (fun _ => 0)) := by
    rw [hg2]
    (repeat rw [xu_ne (n_fst rfl)])
    exact xu_eq _ _ _
  have o2 : ∀ n : xN, n ≠ (0, 0) → n ≠ (1, 0) → n ≠ (2, 0) → g2 n = g n := fun n q0 q1 q2 => by
    rw [hg2]
    (repeat rw [xu_ne (by assumption)])
    exact o1 n q0 q1
  refine x_aloadr_n hC dX2_init_21 (q := 22) rfl rfl ?_
  refine x_new hC (fs := [.int 0, .int 0, .int 0, .int 0, .null, .null, .null, .null, .null, .null]) (3, 0) xc_2 q126 q127 q80 dX2_init_22 (q := 25) rfl rfl (by (repeat rw [xu_ne (n_fst rfl)]); rw [o2 _ (n_fst rfl) (n_fst rfl) (n_fst rfl)]; exact hf1 _ rfl (n_fst rfl)) (fun j hj => by match j, hj with | 0, _ => rfl | 1, _ => rfl | 2, _ => rfl | 3, _ => rfl | 4, _ => rfl | 5, _ => rfl | 6, _ => rfl | 7, _ => rfl | 8, _ => rfl | 9, _ => rfl | j + 10, h => exact absurd h (by omega)) (Nat.le_of_ble_eq_true rfl) (Nat.le_of_ble_eq_true rfl) (fun a_22 => ?_)
  refine x_dup hC dX2_init_25 (q := 26) rfl rfl ?_
  refine x_callIN hC xv_X2_19 dX2_init_26 (q := 29) rfl rfl (m_X3_init h0 _ (nt := (3, 0)) (n1 := (4, 0)) (n2 := (6, 0)) (d0 := d0) rfl rfl rfl (n_fst rfl) (n_fst rfl) (n_fst rfl) (xu_eq _ _ _) (by (repeat rw [xu_ne (n_fst rfl)]); rw [o2 _ (n_fst rfl) (n_fst rfl) (n_fst rfl)]; exact hf1 _ rfl (n_fst rfl)) (by (repeat rw [xu_ne (n_fst rfl)]); rw [o2 _ (n_fst rfl) (n_fst rfl) (n_fst rfl)]; exact hf1 _ rfl (n_fst rfl)) (by exact ⟨hz.1, hz.2.choose, by (repeat rw [xu_ne (n_fst rfl)]); rw [o2 _ (n_fst rfl) (n_fst rfl) (n_fst rfl)]; exact hz.2.choose_spec⟩)) rfl (Nat.le_of_ble_eq_true rfl) ⟨(Nat.le_of_ble_eq_true rfl), (Nat.le_of_ble_eq_true rfl)⟩ ⟨(Nat.le_of_ble_eq_true rfl), (Nat.le_of_ble_eq_true rfl)⟩ (fun v gt hp => ?_)
  obtain ⟨la, lk, rfl, hto, ht1, ht2, ht3⟩ := hp
  refine x_put hC (n := (0, 0)) xf_X2_20_1 xd_1 rfl dX2_init_29 (q := 32) rfl (by rw [hto _ (n_fst rfl) (n_fst rfl) (n_fst rfl), xu_ne (n_fst rfl)]; exact e2_0) rfl rfl rfl ?_
  obtain ⟨g3, hg3⟩ : ∃ x, x = xu gt (0, 0) (some (kb, xO 1 [.ref a_8, .int 0, .ref a_16, .ref a_22, .int 0, .int 0, .int 0, .null, .null, .null, .int 0, .int 0, .null, .long 0, .null, .int 0])) := ⟨_, rfl⟩
  refine x_geq hg3.symm ?_
  have e3_0 : g3 (0, 0) = some (kb, xO 1 [.ref a_8, .int 0, .ref a_16, .ref a_22, .int 0, .int 0, .int 0, .null, .null, .null, .int 0, .int 0, .null, .long 0, .null, .int 0]) := by rw [hg3]; exact xu_eq _ _ _
  have e3_1 : g3 (1, 0) = some (a_8, xAi .char 1600 (fun _ => 0)) := by rw [hg3, xu_ne (n_fst rfl), hto _ (n_fst rfl) (n_fst rfl) (n_fst rfl), xu_ne (n_fst rfl)]; exact e2_1
  have e3_2 : g3 (2, 0) = some (a_16, xAi .int 6 (fun _ => 0)) := by rw [hg3, xu_ne (n_fst rfl), hto _ (n_fst rfl) (n_fst rfl) (n_fst rfl), xu_ne (n_fst rfl)]; exact e2_2
  have e3_3 : g3 (3, 0) = some (a_22, xO 2 [.int 0, .int 0, .int 0, .int 0, .null, .null, .null, .null, .ref la, .ref lk]) := by rw [hg3, xu_ne (n_fst rfl)]; exact ht1
  have e3_4 : g3 (4, 0) = some (la, xO 21 [.int 0, .ref d0, .int 0]) := by rw [hg3, xu_ne (n_fst rfl)]; exact ht2
  have e3_6 : g3 (6, 0) = some (lk, xO 21 [.int 0, .ref d0, .int 0]) := by rw [hg3, xu_ne (n_fst rfl)]; exact ht3
  have o3 : ∀ n : xN, n ≠ (0, 0) → n ≠ (1, 0) → n ≠ (2, 0) → n ≠ (3, 0) → n ≠ (4, 0) → n ≠ (6, 0) → g3 n = g n := fun n q0 q1 q2 q3 q4 q6 => by
    rw [hg3, xu_ne q0, hto n q3 q4 q6, xu_ne q3]
    exact o2 n q0 q1 q2
  refine x_aloadr_n hC dX2_init_32 (q := 33) rfl rfl ?_
  refine x_iconst hC dX2_init_33 (q := 34) rfl (v := (-1)) (by decide) ?_
  refine x_put hC (n := (0, 0)) xf_X2_24_1 xd_1 rfl dX2_init_34 (q := 37) rfl (by (repeat rw [xu_ne (n_fst rfl)]); exact e3_0) rfl rfl rfl ?_
  obtain ⟨g4, hg4⟩ : ∃ x, x = xu g3 (0, 0) (some (kb, xO 1 [.ref a_8, .int 0, .ref a_16, .ref a_22, .int 0, .int (-1), .int 0, .null, .null, .null, .int 0, .int 0, .null, .long 0, .null, .int 0])) := ⟨_, rfl⟩
  refine x_geq hg4.symm ?_
  have e4_0 : g4 (0, 0) = some (kb, xO 1 [.ref a_8, .int 0, .ref a_16, .ref a_22, .int 0, .int (-1), .int 0, .null, .null, .null, .int 0, .int 0, .null, .long 0, .null, .int 0]) := by
    rw [hg4]
    (repeat rw [xu_ne (n_fst rfl)])
    exact xu_eq _ _ _
  have e4_1 : g4 (1, 0) = some (a_8, xAi .char 1600 (fun _ => 0)) := by
    rw [hg4]
    (repeat rw [xu_ne (n_fst rfl)])
    exact e3_1
  have e4_2 : g4 (2, 0) = some (a_16, xAi .int 6 (fun _ => 0)) := by
    rw [hg4]
    (repeat rw [xu_ne (n_fst rfl)])
    exact e3_2
  have e4_3 : g4 (3, 0) = some (a_22, xO 2 [.int 0, .int 0, .int 0, .int 0, .null, .null, .null, .null, .ref la, .ref lk]) := by
    rw [hg4]
    (repeat rw [xu_ne (n_fst rfl)])
    exact e3_3
  have e4_4 : g4 (4, 0) = some (la, xO 21 [.int 0, .ref d0, .int 0]) := by
    rw [hg4]
    (repeat rw [xu_ne (n_fst rfl)])
    exact e3_4
  have e4_6 : g4 (6, 0) = some (lk, xO 21 [.int 0, .ref d0, .int 0]) := by
    rw [hg4]
    (repeat rw [xu_ne (n_fst rfl)])
    exact e3_6
  have o4 : ∀ n : xN, n ≠ (0, 0) → n ≠ (1, 0) → n ≠ (2, 0) → n ≠ (3, 0) → n ≠ (4, 0) → n ≠ (6, 0) → g4 n = g n := fun n q0 q1 q2 q3 q4 q6 => by
    rw [hg4]
    (repeat rw [xu_ne (by assumption)])
    exact o3 n q0 q1 q2 q3 q4 q6
  refine x_aloadr_n hC dX2_init_37 (q := 38) rfl rfl ?_
  refine x_new hC (fs := [.int 0, .null, .int 0]) (10, 0) xc_21 q208 q133 q83 dX2_init_38 (q := 41) rfl rfl (by (repeat rw [xu_ne (n_fst rfl)]); rw [o4 _ (n_fst rfl) (n_fst rfl) (n_fst rfl) (n_fst rfl) (n_fst rfl) (n_fst rfl)]; exact hf1 _ rfl (n_fst rfl)) (fun j hj => by match j, hj with | 0, _ => rfl | 1, _ => rfl | 2, _ => rfl | j + 3, h => exact absurd h (by omega)) (Nat.le_of_ble_eq_true rfl) (Nat.le_of_ble_eq_true rfl) (fun a_38 => ?_)
  refine x_dup hC dX2_init_41 (q := 42) rfl rfl ?_
  refine x_callI hC xv_X2_30 dX2_init_42 (q := 45) rfl rfl (m_J3_init h0 _ (n := (10, 0)) (d0 := d0) rfl (xu_eq _ _ _) (by exact ⟨hz.1, hz.2.choose, by (repeat rw [xu_ne (n_fst rfl)]); rw [o4 _ (n_fst rfl) (n_fst rfl) (n_fst rfl) (n_fst rfl) (n_fst rfl) (n_fst rfl)]; exact hz.2.choose_spec⟩)) rfl (Nat.le_of_ble_eq_true rfl) ⟨(Nat.le_of_ble_eq_true rfl), (Nat.le_of_ble_eq_true rfl)⟩ ⟨(Nat.le_of_ble_eq_true rfl), (Nat.le_of_ble_eq_true rfl)⟩ (fun v g1 hp => ?_)
  rw [xu_xu] at hp
  obtain ⟨rfl, hg1⟩ := hp
  replace hg1 := hg1.symm
  subst hg1
  refine x_putF hC hnm (n := (0, 0)) xff_X2_31_1 xd_1 rfl dX2_init_45 (q := 48) rfl (by (repeat rw [xu_ne (n_fst rfl)]); exact e4_0) rfl rfl rfl ?_
  obtain ⟨g5, hg5⟩ : ∃ x, x = xu (xu g4 (10, 0) (some (a_38, xO 21 [.int 0, .ref d0, .int 0]))) (0, 0) (some (kb, xO 1 [.ref a_8, .int 0, .ref a_16, .ref a_22, .int 0, .int (-1), .int 0, .ref a_38, .null, .null, .int 0, .int 0, .null, .long 0, .null, .int 0])) := ⟨_, rfl⟩
  refine x_geq hg5.symm ?_
  have e5_0 : g5 (0, 0) = some (kb, xO 1 [.ref a_8, .int 0, .ref a_16, .ref a_22, .int 0, .int (-1), .int 0, .ref a_38, .null, .null, .int 0, .int 0, .null, .long 0, .null, .int 0]) := by
    rw [hg5]
    (repeat rw [xu_ne (n_fst rfl)])
    exact xu_eq _ _ _
  have e5_1 : g5 (1, 0) = some (a_8, xAi .char 1600 (fun _ => 0)) := by
    rw [hg5]
    (repeat rw [xu_ne (n_fst rfl)])
    exact e4_1
  have e5_2 : g5 (2, 0) = some (a_16, xAi .int 6 (fun _ => 0)) := by
    rw [hg5]
    (repeat rw [xu_ne (n_fst rfl)])
    exact e4_2
  have e5_3 : g5 (3, 0) = some (a_22, xO 2 [.int 0, .int 0, .int 0, .int 0, .null, .null, .null, .null, .ref la, .ref lk]) := by
    rw [hg5]
    (repeat rw [xu_ne (n_fst rfl)])
    exact e4_3
  have e5_4 : g5 (4, 0) = some (la, xO 21 [.int 0, .ref d0, .int 0]) := by
    rw [hg5]
    (repeat rw [xu_ne (n_fst rfl)])
    exact e4_4
  have e5_6 : g5 (6, 0) = some (lk, xO 21 [.int 0, .ref d0, .int 0]) := by
    rw [hg5]
    (repeat rw [xu_ne (n_fst rfl)])
    exact e4_6
  have e5_10 : g5 (10, 0) = some (a_38, xO 21 [.int 0, .ref d0, .int 0]) := by
    rw [hg5]
    (repeat rw [xu_ne (n_fst rfl)])
    exact xu_eq _ _ _
  have o5 : ∀ n : xN, n ≠ (0, 0) → n ≠ (1, 0) → n ≠ (2, 0) → n ≠ (3, 0) → n ≠ (4, 0) → n ≠ (6, 0) → n ≠ (10, 0) → g5 n = g n := fun n q0 q1 q2 q3 q4 q6 q10 => by
    rw [hg5]
    (repeat rw [xu_ne (by assumption)])
    exact o4 n q0 q1 q2 q3 q4 q6
  refine x_aloadr_n hC dX2_init_48 (q := 49) rfl rfl ?_
  refine x_new hC (fs := [.int 0, .null, .int 0]) (13, 0) xc_21 q208 q133 q83 dX2_init_49 (q := 52) rfl rfl (by (repeat rw [xu_ne (n_fst rfl)]); rw [o5 _ (n_fst rfl) (n_fst rfl) (n_fst rfl) (n_fst rfl) (n_fst rfl) (n_fst rfl) (n_fst rfl)]; exact hf1 _ rfl (n_fst rfl)) (fun j hj => by match j, hj with | 0, _ => rfl | 1, _ => rfl | 2, _ => rfl | j + 3, h => exact absurd h (by omega)) (Nat.le_of_ble_eq_true rfl) (Nat.le_of_ble_eq_true rfl) (fun a_49 => ?_)
  refine x_dup hC dX2_init_52 (q := 53) rfl rfl ?_
  refine x_callI hC xv_X2_30 dX2_init_53 (q := 56) rfl rfl (m_J3_init h0 _ (n := (13, 0)) (d0 := d0) rfl (xu_eq _ _ _) (by exact ⟨hz.1, hz.2.choose, by (repeat rw [xu_ne (n_fst rfl)]); rw [o5 _ (n_fst rfl) (n_fst rfl) (n_fst rfl) (n_fst rfl) (n_fst rfl) (n_fst rfl) (n_fst rfl)]; exact hz.2.choose_spec⟩)) rfl (Nat.le_of_ble_eq_true rfl) ⟨(Nat.le_of_ble_eq_true rfl), (Nat.le_of_ble_eq_true rfl)⟩ ⟨(Nat.le_of_ble_eq_true rfl), (Nat.le_of_ble_eq_true rfl)⟩ (fun v g1 hp => ?_)
  rw [xu_xu] at hp
  obtain ⟨rfl, hg1⟩ := hp
  replace hg1 := hg1.symm
  subst hg1
  refine x_putF hC hnm (n := (0, 0)) xff_X2_35_1 xd_1 rfl dX2_init_56 (q := 59) rfl (by (repeat rw [xu_ne (n_fst rfl)]); exact e5_0) rfl rfl rfl ?_
  obtain ⟨g6, hg6⟩ : ∃ x, x = xu (xu g5 (13, 0) (some (a_49, xO 21 [.int 0, .ref d0, .int 0]))) (0, 0) (some (kb, xO 1 [.ref a_8, .int 0, .ref a_16, .ref a_22, .int 0, .int (-1), .int 0, .ref a_38, .ref a_49, .null, .int 0, .int 0, .null, .long 0, .null, .int 0])) := ⟨_, rfl⟩
  refine x_geq hg6.symm ?_
  have e6_0 : g6 (0, 0) = some (kb, xO 1 [.ref a_8, .int 0, .ref a_16, .ref a_22, .int 0, .int (-1), .int 0, .ref a_38, .ref a_49, .null, .int 0, .int 0, .null, .long 0, .null, .int 0]) := by
    rw [hg6]
    (repeat rw [xu_ne (n_fst rfl)])
    exact xu_eq _ _ _
  have e6_1 : g6 (1, 0) = some (a_8, xAi .char 1600 (fun _ => 0)) := by
    rw [hg6]
    (repeat rw [xu_ne (n_fst rfl)])
    exact e5_1
  have e6_2 : g6 (2, 0) = some (a_16, xAi .int 6 (fun _ => 0)) := by
    rw [hg6]
    (repeat rw [xu_ne (n_fst rfl)])
    exact e5_2
  have e6_3 : g6 (3, 0) = some (a_22, xO 2 [.int 0, .int 0, .int 0, .int 0, .null, .null, .null, .null, .ref la, .ref lk]) := by
    rw [hg6]
    (repeat rw [xu_ne (n_fst rfl)])
    exact e5_3
  have e6_4 : g6 (4, 0) = some (la, xO 21 [.int 0, .ref d0, .int 0]) := by
    rw [hg6]
    (repeat rw [xu_ne (n_fst rfl)])
    exact e5_4
  have e6_6 : g6 (6, 0) = some (lk, xO 21 [.int 0, .ref d0, .int 0]) := by
    rw [hg6]
    (repeat rw [xu_ne (n_fst rfl)])
    exact e5_6
  have e6_10 : g6 (10, 0) = some (a_38, xO 21 [.int 0, .ref d0, .int 0]) := by
    rw [hg6]
    (repeat rw [xu_ne (n_fst rfl)])
    exact e5_10
  have e6_13 : g6 (13, 0) = some (a_49, xO 21 [.int 0, .ref d0, .int 0]) := by
    rw [hg6]
    (repeat rw [xu_ne (n_fst rfl)])
    exact xu_eq _ _ _
  have o6 : ∀ n : xN, n ≠ (0, 0) → n ≠ (1, 0) → n ≠ (2, 0) → n ≠ (3, 0) → n ≠ (4, 0) → n ≠ (6, 0) → n ≠ (10, 0) → n ≠ (13, 0) → g6 n = g n := fun n q0 q1 q2 q3 q4 q6 q10 q13 => by
    rw [hg6]
    (repeat rw [xu_ne (by assumption)])
    exact o5 n q0 q1 q2 q3 q4 q6 q10
  refine x_aloadr_n hC dX2_init_59 (q := 60) rfl rfl ?_
  refine x_new hC (fs := [.null]) (8, 0) xc_3 q210 q211 q84 dX2_init_60 (q := 63) rfl rfl (by (repeat rw [xu_ne (n_fst rfl)]); rw [o6 _ (n_fst rfl) (n_fst rfl) (n_fst rfl) (n_fst rfl) (n_fst rfl) (n_fst rfl) (n_fst rfl) (n_fst rfl)]; exact hf1 _ rfl (n_fst rfl)) (fun j hj => by match j, hj with | 0, _ => rfl | j + 1, h => exact absurd h (by omega)) (Nat.le_of_ble_eq_true rfl) (Nat.le_of_ble_eq_true rfl) (fun a_60 => ?_)
  refine x_dup hC dX2_init_63 (q := 64) rfl rfl ?_
  refine x_callIN hC xv_X2_40 dX2_init_64 (q := 67) rfl rfl (m_X4_init h0 _ (xu_eq _ _ _) (by (repeat rw [xu_ne (n_fst rfl)]); rw [o6 _ (n_fst rfl) (n_fst rfl) (n_fst rfl) (n_fst rfl) (n_fst rfl) (n_fst rfl) (n_fst rfl) (n_fst rfl)]; exact hf1 _ rfl (n_fst rfl))) rfl (Nat.le_of_ble_eq_true rfl) ⟨(Nat.le_of_ble_eq_true rfl), (Nat.le_of_ble_eq_true rfl)⟩ ⟨(Nat.le_of_ble_eq_true rfl), (Nat.le_of_ble_eq_true rfl)⟩ (fun v g1 hp => ?_)
  obtain ⟨b9, rfl, hg1⟩ := hp
  replace hg1 := hg1.symm
  subst hg1
  refine x_putF hC hnm (n := (0, 0)) xff_X2_41_1 xd_1 rfl dX2_init_67 (q := 70) rfl (by (repeat rw [xu_ne (n_fst rfl)]); exact e6_0) rfl rfl rfl ?_
  obtain ⟨g7, hg7⟩ : ∃ x, x = xu (xu (xu (xu g6 (8, 0) (some (a_60, xO 3 [.null]))) (9, 0) (some (b9, xAl 10 (fun _ => 0)))) (8, 0) (some (a_60, xO 3 [.ref b9]))) (0, 0) (some (kb, xO 1 [.ref a_8, .int 0, .ref a_16, .ref a_22, .int 0, .int (-1), .int 0, .ref a_38, .ref a_49, .ref a_60, .int 0, .int 0, .null, .long 0, .null, .int 0])) := ⟨_, rfl⟩
  refine x_geq hg7.symm ?_
  have e7_0 : g7 (0, 0) = some (kb, xO 1 [.ref a_8, .int 0, .ref a_16, .ref a_22, .int 0, .int (-1), .int 0, .ref a_38, .ref a_49, .ref a_60, .int 0, .int 0, .null, .long 0, .null, .int 0]) := by
    rw [hg7]
    (repeat rw [xu_ne (n_fst rfl)])
    exact xu_eq _ _ _
  have e7_1 : g7 (1, 0) = some (a_8, xAi .char 1600 (fun _ => 0)) := by
    rw [hg7]
    (repeat rw [xu_ne (n_fst rfl)])
    exact e6_1
  have e7_2 : g7 (2, 0) = some (a_16, xAi .int 6 (fun _ => 0)) := by
    rw [hg7]
    (repeat rw [xu_ne (n_fst rfl)])
    exact e6_2
  have e7_3 : g7 (3, 0) = some (a_22, xO 2 [.int 0, .int 0, .int 0, .int 0, .null, .null, .null, .null, .ref la, .ref lk]) := by
    rw [hg7]
    (repeat rw [xu_ne (n_fst rfl)])
    exact e6_3
  have e7_4 : g7 (4, 0) = some (la, xO 21 [.int 0, .ref d0, .int 0]) := by
    rw [hg7]
    (repeat rw [xu_ne (n_fst rfl)])
    exact e6_4
  have e7_6 : g7 (6, 0) = some (lk, xO 21 [.int 0, .ref d0, .int 0]) := by
    rw [hg7]
    (repeat rw [xu_ne (n_fst rfl)])
    exact e6_6
  have e7_8 : g7 (8, 0) = some (a_60, xO 3 [.ref b9]) := by
    rw [hg7]
    (repeat rw [xu_ne (n_fst rfl)])
    exact xu_eq _ _ _
  have e7_9 : g7 (9, 0) = some (b9, xAl 10 (fun _ => 0)) := by
    rw [hg7]
    (repeat rw [xu_ne (n_fst rfl)])
    exact xu_eq _ _ _
  have e7_10 : g7 (10, 0) = some (a_38, xO 21 [.int 0, .ref d0, .int 0]) := by
    rw [hg7]
    (repeat rw [xu_ne (n_fst rfl)])
    exact e6_10
  have e7_13 : g7 (13, 0) = some (a_49, xO 21 [.int 0, .ref d0, .int 0]) := by
    rw [hg7]
    (repeat rw [xu_ne (n_fst rfl)])
    exact e6_13
  have o7 : ∀ n : xN, n ≠ (0, 0) → n ≠ (1, 0) → n ≠ (2, 0) → n ≠ (3, 0) → n ≠ (4, 0) → n ≠ (6, 0) → n ≠ (8, 0) → n ≠ (9, 0) → n ≠ (10, 0) → n ≠ (13, 0) → g7 n = g n := fun n q0 q1 q2 q3 q4 q6 q8 q9 q10 q13 => by
    rw [hg7]
    (repeat rw [xu_ne (by assumption)])
    exact o6 n q0 q1 q2 q3 q4 q6 q10 q13
  refine x_aloadr_n hC dX2_init_70 (q := 71) rfl rfl ?_
  refine x_new hC (fs := [.int 0, .null, .int 0]) (16, 0) xc_21 q208 q133 q83 dX2_init_71 (q := 74) rfl rfl (by (repeat rw [xu_ne (n_fst rfl)]); rw [o7 _ (n_fst rfl) (n_fst rfl) (n_fst rfl) (n_fst rfl) (n_fst rfl) (n_fst rfl) (n_fst rfl) (n_fst rfl) (n_fst rfl) (n_fst rfl)]; exact hf1 _ rfl (n_fst rfl)) (fun j hj => by match j, hj with | 0, _ => rfl | 1, _ => rfl | 2, _ => rfl | j + 3, h => exact absurd h (by omega)) (Nat.le_of_ble_eq_true rfl) (Nat.le_of_ble_eq_true rfl) (fun a_71 => ?_)
  refine x_dup hC dX2_init_74 (q := 75) rfl rfl ?_
  refine x_callI hC xv_X2_30 dX2_init_75 (q := 78) rfl rfl (m_J3_init h0 _ (n := (16, 0)) (d0 := d0) rfl (xu_eq _ _ _) (by exact ⟨hz.1, hz.2.choose, by (repeat rw [xu_ne (n_fst rfl)]); rw [o7 _ (n_fst rfl) (n_fst rfl) (n_fst rfl) (n_fst rfl) (n_fst rfl) (n_fst rfl) (n_fst rfl) (n_fst rfl) (n_fst rfl) (n_fst rfl)]; exact hz.2.choose_spec⟩)) rfl (Nat.le_of_ble_eq_true rfl) ⟨(Nat.le_of_ble_eq_true rfl), (Nat.le_of_ble_eq_true rfl)⟩ ⟨(Nat.le_of_ble_eq_true rfl), (Nat.le_of_ble_eq_true rfl)⟩ (fun v g1 hp => ?_)
  rw [xu_xu] at hp
  obtain ⟨rfl, hg1⟩ := hp
  replace hg1 := hg1.symm
  subst hg1
  refine x_putF hC hnm (n := (0, 0)) xff_X2_45_1 xd_1 rfl dX2_init_78 (q := 81) rfl (by (repeat rw [xu_ne (n_fst rfl)]); exact e7_0) rfl rfl rfl ?_
  obtain ⟨g8, hg8⟩ : ∃ x, x = xu (xu g7 (16, 0) (some (a_71, xO 21 [.int 0, .ref d0, .int 0]))) (0, 0) (some (kb, xO 1 [.ref a_8, .int 0, .ref a_16, .ref a_22, .int 0, .int (-1), .int 0, .ref a_38, .ref a_49, .ref a_60, .int 0, .int 0, .ref a_71, .long 0, .null, .int 0])) := ⟨_, rfl⟩
  refine x_geq hg8.symm ?_
  have e8_0 : g8 (0, 0) = some (kb, xO 1 [.ref a_8, .int 0, .ref a_16, .ref a_22, .int 0, .int (-1), .int 0, .ref a_38, .ref a_49, .ref a_60, .int 0, .int 0, .ref a_71, .long 0, .null, .int 0]) := by
    rw [hg8]
    (repeat rw [xu_ne (n_fst rfl)])
    exact xu_eq _ _ _
  have e8_1 : g8 (1, 0) = some (a_8, xAi .char 1600 (fun _ => 0)) := by
    rw [hg8]
    (repeat rw [xu_ne (n_fst rfl)])
    exact e7_1
  have e8_2 : g8 (2, 0) = some (a_16, xAi .int 6 (fun _ => 0)) := by
    rw [hg8]
    (repeat rw [xu_ne (n_fst rfl)])
    exact e7_2
  have e8_3 : g8 (3, 0) = some (a_22, xO 2 [.int 0, .int 0, .int 0, .int 0, .null, .null, .null, .null, .ref la, .ref lk]) := by
    rw [hg8]
    (repeat rw [xu_ne (n_fst rfl)])
    exact e7_3
  have e8_4 : g8 (4, 0) = some (la, xO 21 [.int 0, .ref d0, .int 0]) := by
    rw [hg8]
    (repeat rw [xu_ne (n_fst rfl)])
    exact e7_4
  have e8_6 : g8 (6, 0) = some (lk, xO 21 [.int 0, .ref d0, .int 0]) := by
    rw [hg8]
    (repeat rw [xu_ne (n_fst rfl)])
    exact e7_6
  have e8_8 : g8 (8, 0) = some (a_60, xO 3 [.ref b9]) := by
    rw [hg8]
    (repeat rw [xu_ne (n_fst rfl)])
    exact e7_8
  have e8_9 : g8 (9, 0) = some (b9, xAl 10 (fun _ => 0)) := by
    rw [hg8]
    (repeat rw [xu_ne (n_fst rfl)])
    exact e7_9
  have e8_10 : g8 (10, 0) = some (a_38, xO 21 [.int 0, .ref d0, .int 0]) := by
    rw [hg8]
    (repeat rw [xu_ne (n_fst rfl)])
    exact e7_10
  have e8_13 : g8 (13, 0) = some (a_49, xO 21 [.int 0, .ref d0, .int 0]) := by
    rw [hg8]
    (repeat rw [xu_ne (n_fst rfl)])
    exact e7_13
  have e8_16 : g8 (16, 0) = some (a_71, xO 21 [.int 0, .ref d0, .int 0]) := by
    rw [hg8]
    (repeat rw [xu_ne (n_fst rfl)])
    exact xu_eq _ _ _
  have o8 : ∀ n : xN, n ≠ (0, 0) → n ≠ (1, 0) → n ≠ (2, 0) → n ≠ (3, 0) → n ≠ (4, 0) → n ≠ (6, 0) → n ≠ (8, 0) → n ≠ (9, 0) → n ≠ (10, 0) → n ≠ (13, 0) → n ≠ (16, 0) → g8 n = g n := fun n q0 q1 q2 q3 q4 q6 q8 q9 q10 q13 q16 => by
    rw [hg8]
    (repeat rw [xu_ne (by assumption)])
    exact o7 n q0 q1 q2 q3 q4 q6 q8 q9 q10 q13
  refine x_aloadr_n hC dX2_init_81 (q := 82) rfl rfl ?_
  refine x_lconst hC dX2_init_82 (q := 83) rfl (v := 1) (by decide) ?_
  refine x_put hC (n := (0, 0)) xf_X2_48_1 xd_1 rfl dX2_init_83 (q := 86) rfl (by (repeat rw [xu_ne (n_fst rfl)]); exact e8_0) rfl rfl rfl ?_
  obtain ⟨g9, hg9⟩ : ∃ x, x = xu g8 (0, 0) (some (kb, xO 1 [.ref a_8, .int 0, .ref a_16, .ref a_22, .int 0, .int (-1), .int 0, .ref a_38, .ref a_49, .ref a_60, .int 0, .int 0, .ref a_71, .long 1, .null, .int 0])) := ⟨_, rfl⟩
  refine x_geq hg9.symm ?_
  have e9_0 : g9 (0, 0) = some (kb, xO 1 [.ref a_8, .int 0, .ref a_16, .ref a_22, .int 0, .int (-1), .int 0, .ref a_38, .ref a_49, .ref a_60, .int 0, .int 0, .ref a_71, .long 1, .null, .int 0]) := by
    rw [hg9]
    (repeat rw [xu_ne (n_fst rfl)])
    exact xu_eq _ _ _
  have e9_1 : g9 (1, 0) = some (a_8, xAi .char 1600 (fun _ => 0)) := by
    rw [hg9]
    (repeat rw [xu_ne (n_fst rfl)])
    exact e8_1
  have e9_2 : g9 (2, 0) = some (a_16, xAi .int 6 (fun _ => 0)) := by
    rw [hg9]
    (repeat rw [xu_ne (n_fst rfl)])
    exact e8_2
  have e9_3 : g9 (3, 0) = some (a_22, xO 2 [.int 0, .int 0, .int 0, .int 0, .null, .null, .null, .null, .ref la, .ref lk]) := by
    rw [hg9]
    (repeat rw [xu_ne (n_fst rfl)])
    exact e8_3
  have e9_4 : g9 (4, 0) = some (la, xO 21 [.int 0, .ref d0, .int 0]) := by
    rw [hg9]
    (repeat rw [xu_ne (n_fst rfl)])
    exact e8_4
  have e9_6 : g9 (6, 0) = some (lk, xO 21 [.int 0, .ref d0, .int 0]) := by
    rw [hg9]
    (repeat rw [xu_ne (n_fst rfl)])
    exact e8_6
  have e9_8 : g9 (8, 0) = some (a_60, xO 3 [.ref b9]) := by
    rw [hg9]
    (repeat rw [xu_ne (n_fst rfl)])
    exact e8_8
  have e9_9 : g9 (9, 0) = some (b9, xAl 10 (fun _ => 0)) := by
    rw [hg9]
    (repeat rw [xu_ne (n_fst rfl)])
    exact e8_9
  have e9_10 : g9 (10, 0) = some (a_38, xO 21 [.int 0, .ref d0, .int 0]) := by
    rw [hg9]
    (repeat rw [xu_ne (n_fst rfl)])
    exact e8_10
  have e9_13 : g9 (13, 0) = some (a_49, xO 21 [.int 0, .ref d0, .int 0]) := by
    rw [hg9]
    (repeat rw [xu_ne (n_fst rfl)])
    exact e8_13
  have e9_16 : g9 (16, 0) = some (a_71, xO 21 [.int 0, .ref d0, .int 0]) := by
    rw [hg9]
    (repeat rw [xu_ne (n_fst rfl)])
    exact e8_16
  have o9 : ∀ n : xN, n ≠ (0, 0) → n ≠ (1, 0) → n ≠ (2, 0) → n ≠ (3, 0) → n ≠ (4, 0) → n ≠ (6, 0) → n ≠ (8, 0) → n ≠ (9, 0) → n ≠ (10, 0) → n ≠ (13, 0) → n ≠ (16, 0) → g9 n = g n := fun n q0 q1 q2 q3 q4 q6 q8 q9 q10 q13 q16 => by
    rw [hg9]
    (repeat rw [xu_ne (by assumption)])
    exact o8 n q0 q1 q2 q3 q4 q6 q8 q9 q10 q13 q16
  refine x_aloadr_n hC dX2_init_86 (q := 87) rfl rfl ?_
  refine x_bipush hC dX2_init_87 (q := 89) rfl (v := (56)) (by decide) ?_
  refine x_newa hC (at0 := .char) (N := 56) (x := (56, .inl (fun _ => 0))) (18, 0) q158 dX2_init_89 (q := 91) rfl rfl (by (repeat rw [xu_ne (n_fst rfl)]); rw [o9 _ (n_fst rfl) (n_fst rfl) (n_fst rfl) (n_fst rfl) (n_fst rfl) (n_fst rfl) (n_fst rfl) (n_fst rfl) (n_fst rfl) (n_fst rfl) (n_fst rfl)]; exact hf1 _ rfl (n_fst rfl)) rfl (by decide) (fun _ => rfl) (Nat.le_of_ble_eq_true rfl) (Nat.le_of_ble_eq_true rfl) (fun a_89 => ?_)
  refine x_putF hC hnm (n := (0, 0)) xff_X2_52_1 xd_1 rfl dX2_init_91 (q := 94) rfl (by (repeat rw [xu_ne (n_fst rfl)]); exact e9_0) rfl rfl rfl ?_
  obtain ⟨g10, hg10⟩ : ∃ x, x = xu (xu g9 (18, 0) (some (a_89, xAi .char 56 (fun _ => 0)))) (0, 0) (some (kb, xO 1 [.ref a_8, .int 0, .ref a_16, .ref a_22, .int 0, .int (-1), .int 0, .ref a_38, .ref a_49, .ref a_60, .int 0, .int 0, .ref a_71, .long 1, .ref a_89, .int 0])) := ⟨_, rfl⟩
  refine x_geq hg10.symm ?_
  have e10_0 : g10 (0, 0) = some (kb, xO 1 [.ref a_8, .int 0, .ref a_16, .ref a_22, .int 0, .int (-1), .int 0, .ref a_38, .ref a_49, .ref a_60, .int 0, .int 0, .ref a_71, .long 1, .ref a_89, .int 0]) := by
    rw [hg10]
    (repeat rw [xu_ne (n_fst rfl)])
    exact xu_eq _ _ _
  have e10_1 : g10 (1, 0) = some (a_8, xAi .char 1600 (fun _ => 0)) := by
    rw [hg10]
    (repeat rw [xu_ne (n_fst rfl)])
    exact e9_1
  have e10_2 : g10 (2, 0) = some (a_16, xAi .int 6 (fun _ => 0)) := by
    rw [hg10]
    (repeat rw [xu_ne (n_fst rfl)])
    exact e9_2
  have e10_3 : g10 (3, 0) = some (a_22, xO 2 [.int 0, .int 0, .int 0, .int 0, .null, .null, .null, .null, .ref la, .ref lk]) := by
    rw [hg10]
    (repeat rw [xu_ne (n_fst rfl)])
    exact e9_3
  have e10_4 : g10 (4, 0) = some (la, xO 21 [.int 0, .ref d0, .int 0]) := by
    rw [hg10]
    (repeat rw [xu_ne (n_fst rfl)])
    exact e9_4
  have e10_6 : g10 (6, 0) = some (lk, xO 21 [.int 0, .ref d0, .int 0]) := by
    rw [hg10]
    (repeat rw [xu_ne (n_fst rfl)])
    exact e9_6
  have e10_8 : g10 (8, 0) = some (a_60, xO 3 [.ref b9]) := by
    rw [hg10]
    (repeat rw [xu_ne (n_fst rfl)])
    exact e9_8
  have e10_9 : g10 (9, 0) = some (b9, xAl 10 (fun _ => 0)) := by
    rw [hg10]
    (repeat rw [xu_ne (n_fst rfl)])
    exact e9_9
  have e10_10 : g10 (10, 0) = some (a_38, xO 21 [.int 0, .ref d0, .int 0]) := by
    rw [hg10]
    (repeat rw [xu_ne (n_fst rfl)])
    exact e9_10
  have e10_13 : g10 (13, 0) = some (a_49, xO 21 [.int 0, .ref d0, .int 0]) := by
    rw [hg10]
    (repeat rw [xu_ne (n_fst rfl)])
    exact e9_13
  have e10_16 : g10 (16, 0) = some (a_71, xO 21 [.int 0, .ref d0, .int 0]) := by
    rw [hg10]
    (repeat rw [xu_ne (n_fst rfl)])
    exact e9_16
  have e10_18 : g10 (18, 0) = some (a_89, xAi .char 56 (fun _ => 0)) := by
    rw [hg10]
    (repeat rw [xu_ne (n_fst rfl)])
    exact xu_eq _ _ _
  have o10 : ∀ n : xN, n ≠ (0, 0) → n ≠ (1, 0) → n ≠ (2, 0) → n ≠ (3, 0) → n ≠ (4, 0) → n ≠ (6, 0) → n ≠ (8, 0) → n ≠ (9, 0) → n ≠ (10, 0) → n ≠ (13, 0) → n ≠ (16, 0) → n ≠ (18, 0) → g10 n = g n := fun n q0 q1 q2 q3 q4 q6 q8 q9 q10 q13 q16 q18 => by
    rw [hg10]
    (repeat rw [xu_ne (by assumption)])
    exact o9 n q0 q1 q2 q3 q4 q6 q8 q9 q10 q13 q16
  have hfin : g10 = kmix (K00 (fun k => match k with | 0 => kb | 1 => a_8 | 2 => a_16 | 3 => a_22 | 4 => la | 6 => lk | 8 => a_60 | 9 => b9 | 10 => a_38 | 13 => a_49 | 16 => a_71 | 18 => a_89 | _ => 0) d0) g := by
    refine kext (fun k j hk => ?_) (fun n hn => o10 n (fun q => by rw [q] at hn; exact absurd hn (by decide)) (fun q => by rw [q] at hn; exact absurd hn (by decide)) (fun q => by rw [q] at hn; exact absurd hn (by decide)) (fun q => by rw [q] at hn; exact absurd hn (by decide)) (fun q => by rw [q] at hn; exact absurd hn (by decide)) (fun q => by rw [q] at hn; exact absurd hn (by decide)) (fun q => by rw [q] at hn; exact absurd hn (by decide)) (fun q => by rw [q] at hn; exact absurd hn (by decide)) (fun q => by rw [q] at hn; exact absurd hn (by decide)) (fun q => by rw [q] at hn; exact absurd hn (by decide)) (fun q => by rw [q] at hn; exact absurd hn (by decide)) (fun q => by rw [q] at hn; exact absurd hn (by decide)))
    cases j with
    | succ j =>
      rw [K00_i, o10 _ (fun q => by cases q) (fun q => by cases q) (fun q => by cases q) (fun q => by cases q) (fun q => by cases q) (fun q => by cases q) (fun q => by cases q) (fun q => by cases q) (fun q => by cases q) (fun q => by cases q) (fun q => by cases q) (fun q => by cases q)]
      exact hf1 _ hk (fun q => by cases q)
    | zero =>
      cases hb : K0n k with
      | false =>
        rw [K00_n _ _ _ hb, o10 _ (fun q => by cases q; exact absurd hb (by decide)) (fun q => by cases q; exact absurd hb (by decide)) (fun q => by cases q; exact absurd hb (by decide)) (fun q => by cases q; exact absurd hb (by decide)) (fun q => by cases q; exact absurd hb (by decide)) (fun q => by cases q; exact absurd hb (by decide)) (fun q => by cases q; exact absurd hb (by decide)) (fun q => by cases q; exact absurd hb (by decide)) (fun q => by cases q; exact absurd hb (by decide)) (fun q => by cases q; exact absurd hb (by decide)) (fun q => by cases q; exact absurd hb (by decide)) (fun q => by cases q; exact absurd hb (by decide))]
        exact hf1 _ hk (fun q => by rw [show k = 0 from congrArg Prod.fst q] at hb; exact absurd hb (by decide))
      | true =>
        have hk2 : k = 0 ∨ k = 1 ∨ k = 2 ∨ k = 3 ∨ k = 4 ∨ k = 6 ∨ k = 8 ∨ k = 9 ∨ k = 10 ∨ k = 13 ∨ k = 16 ∨ k = 18 := by
          unfold K0n at hb
          rw [Bool.or_eq_true, Bool.or_eq_true, Bool.or_eq_true, Bool.or_eq_true, Bool.or_eq_true, Bool.and_eq_true] at hb
          rcases hb with q | q | q | q | q | q
          · have := Nat.le_of_ble_eq_true q; omega
          · have := Nat.eq_of_beq_eq_true q; omega
          · have := Nat.le_of_ble_eq_true q.1; have := Nat.le_of_ble_eq_true q.2; omega
          · have := Nat.eq_of_beq_eq_true q; omega
          · have := Nat.eq_of_beq_eq_true q; omega
          · have := Nat.eq_of_beq_eq_true q; omega
        rcases hk2 with rfl | rfl | rfl | rfl | rfl | rfl | rfl | rfl | rfl | rfl | rfl | rfl
        · exact e10_0
        · exact e10_1
        · exact e10_2
        · exact e10_3
        · exact e10_4
        · exact e10_6
        · exact e10_8
        · exact e10_9
        · exact e10_10
        · exact e10_13
        · exact e10_16
        · exact e10_18
  exact x_vret hC hr dX2_init_94 (Nat.le_of_ble_eq_true rfl) (Nat.le_of_ble_eq_true rfl) ⟨(fun k => match k with | 0 => kb | 1 => a_8 | 2 => a_16 | 3 => a_22 | 4 => la | 6 => lk | 8 => a_60 | 9 => b9 | 10 => a_38 | 13 => a_49 | 16 => a_71 | 18 => a_89 | _ => 0), rfl, rfl, hfin⟩
