/-! the text is fed -/
def kPk (c : Nat → Int32) : Nat → Int32
  | 0 => 0
  | m + 1 => (kPk c m <<< (8 &&& 31)) ||| c m
theorem kPk_b {c : Nat → Int32} (hc : ∀ j, c j &&& 255 = c j) : ∀ (m i t : Nat), m ≤ 4 → i < m → t < 8 → bt (kPk c m) (8 * (m - 1 - i) + t) = bt (c i) t
  | 0, i, t, _, hi, _ => absurd hi (Nat.not_lt_zero i)
  | m + 1, i, t, hm, hi, ht => by
    show bt ((kPk c m <<< (nI 8 &&& 31)) ||| c m) _ = _
    rw [b_or, b_shl 8 (by decide) _ (by omega)]
    by_cases e : i = m
    · subst e
      rw [decide_eq_false (by omega), show 8 * (i + 1 - 1 - i) + t = t by omega]
      rfl
    · have h1 := kPk_b hc m i t (by omega) (by omega) ht
      have h2 : bt (c m) (8 * (m + 1 - 1 - i) + t) = false := by
        rw [← hc m, b_and, b_255, decide_eq_false (by omega), Bool.and_false]
      rw [decide_eq_true (by omega), h2, Bool.or_false, Bool.true_and, ← h1]
      congr 1
      omega
theorem kBw_pk {c : Nat → Int32} (hc : ∀ j, c j &&& 255 = c j) {i : Nat} (hi : i < 4) : kBw (kPk c 4) i = c i := by
  unfold kBw
  refine b_ext (fun t ht => ?_)
  rw [b_and, b_255, b_sshr (24 - 8 * i) (by omega) _ ht]
  by_cases h : t < 8
  · rw [decide_eq_true h, Bool.and_true, if_pos (by omega), ← kPk_b hc 4 i t (by decide) hi h]
    congr 1
    omega
  · rw [decide_eq_false h, Bool.and_false, ← hc i, b_and, b_255, decide_eq_false h, Bool.and_false]
def kWd (c : Nat → Int32) (j : Nat) : Nat → Int32 := fun k => kPk (fun t => c (4 * k + t)) (min 4 (j - 4 * k))
theorem kWd_up (c : Nat → Int32) {j : Nat} (hj : j < 20) : upd (kWd c j) (j / 4) ((kWd c j (j / 4) <<< (8 &&& 31)) ||| c j) = kWd c (j + 1) := by
  funext k
  unfold upd
  by_cases h : k = j / 4
  · subst h
    rw [if_pos rfl]
    unfold kWd
    rw [show min 4 (j + 1 - 4 * (j / 4)) = min 4 (j - 4 * (j / 4)) + 1 by omega]
    show _ = (kPk _ _ <<< (8 &&& 31)) ||| c (4 * (j / 4) + min 4 (j - 4 * (j / 4)))
    rw [show 4 * (j / 4) + min 4 (j - 4 * (j / 4)) = j by omega]
  · rw [if_neg h]
    unfold kWd
    rw [show min 4 (j + 1 - 4 * k) = min 4 (j - 4 * k) by omega]
theorem kWd_0 (c : Nat → Int32) : kWd c 0 = fun _ => 0 := by
  funext k
  unfold kWd
  rw [Nat.zero_sub]
  rfl
theorem kFe_at (b : Nat → Int) (n : Nat) (v : Nat → Int32) (j : Nat) : ∀ k, kFe b n v k j = if n ≤ j ∧ j < n + 4 * k then (kBw (v ((j - n) / 4)) ((j - n) % 4)).toInt else b j
  | 0 => by rw [if_neg (by omega)]; rfl
  | k + 1 => by
    show kLy (kFe b n v k) (n + 4 * k) (v k) 4 j = _
    unfold kLy
    by_cases h : n + 4 * k ≤ j ∧ j < n + 4 * k + 4
    · rw [if_pos h, if_pos (by omega), show (j - n) / 4 = k by omega, show (j - n) % 4 = j - (n + 4 * k) by omega]
    · rw [if_neg h, kFe_at b n v j k]
      by_cases h2 : n ≤ j ∧ j < n + 4 * k
      · rw [if_pos h2, if_pos (by omega)]
      · rw [if_neg h2, if_neg (by omega)]
theorem kTa_end (σ : KS) (b : Nat → Int) (i n : Nat) : kIs (kTa σ b i) 0 0 (n : Int) = kTa σ b n := by
  refine KS_ext ?_ rfl rfl rfl rfl
  funext f k
  show (if f = 0 ∧ k = 0 then (n : Int) else if f = 0 ∧ k = 0 then (i : Int) else σ.1 f k) = if f = 0 ∧ k = 0 then (n : Int) else σ.1 f k
  split <;> rfl
/-- a text's letter, or a space behind its end -/
def kCc (N : Nat) (f : Nat → Int32) (i : Nat) : Nat → Int32 := fun j => if i + j < N then f (i + j) &&& 255 else 32
theorem kCc_255 (N : Nat) (f : Nat → Int32) (i j : Nat) : kCc N f i j &&& 255 = kCc N f i j := by
  unfold kCc
  split
  · refine b_ext (fun t ht => ?_)
    rw [b_and, b_and, Bool.and_assoc, Bool.and_self]
  · decide
theorem kTa_0 (σ : KS) (h : kI σ 0 0 = 0) : σ = kTa σ (kV σ 0 0) 0 := by
  refine KS_ext ?_ rfl rfl ?_ rfl
  · funext f k
    show σ.1 f k = if f = 0 ∧ k = 0 then 0 else σ.1 f k
    by_cases e : f = 0 ∧ k = 0
    · rw [if_pos e, e.1, e.2]; exact h
    · rw [if_neg e]
  · funext f k j
    show σ.2.2.2.1 f k j = if f = 0 ∧ k = 0 then σ.2.2.2.1 0 0 j else σ.2.2.2.1 f k j
    by_cases e : f = 0 ∧ k = 0
    · rw [if_pos e, e.1, e.2]
    · rw [if_neg e]
theorem kmix_sub1 {σ : KS} {gF : xG} {m : xN} {x : Option (Nat × xE)} (h : gF m = none) (h40 : Nat.blt m.1 40 = false) : ∀ n y, kmix σ gF n = some y → kmix σ (xu gF m x) n = some y := by
  intro n y e
  rw [← kmix_xuF σ gF m x h40, xu_ne (fun q => by rw [q, kmix_F σ gF m h40, h] at e; cases e)]
  exact e

set_option maxHeartbeats 4000000 in
set_option maxRecDepth 100000 in
theorem m_X0_feed_2 {l : Launch} {s0 : State} {D : va_G} (h0 : x0 l s0 D) (σ : KS) (gF : xG) (b0 : Nat → Int) {ca N : Nat} {f : Nat → Int32} (hc : gF (109, 0) = some (ca, xAi .int N f)) (hw : gF (110, 0) = none) (hN : N ≤ 1500) : xMet l s0 D yX0_feed_2 cX0_feed_2 5 (some .boolean) (xr 4 80 400 120) [.ref (kA σ 0 0), .ref ca] (kmix (kTa σ b0 0) gF) (fun r g1 => r = some (.int 1) ∧ ∃ b, (∀ j, j < N → iI (b j) = f j &&& 255) ∧ g1 = kmix (kTa σ b N) gF) := by
  refine xMet.of h0 (by decide +kernel) rfl ?_
  intro zp ze zs zm za zb zf zc hC hr hnm
  refine x_iconst hC dX0_feed_2_0 (q := 1) rfl (v := (0)) (by decide) ?_
  refine x_istore_n hC dX0_feed_2_1 (q := 2) rfl rfl ?_
  refine x_loop (S := (fun x : Nat × (Nat → Int) × Option Value × Option Value => ((1 * x.1 : Nat), (5 * x.1 : Nat), kmix (kTa σ x.2.1 (20 * x.1)) gF, ([some (.ref (kA σ 0 0)), some (.ref ca), some (.int (nI (20 * x.1))), x.2.2.1, x.2.2.2] : xL), ([] : List Value)))) (Inv := fun x => 20 * x.1 < N + 20 ∧ ∀ j, j < 20 * x.1 → j < N → iI (x.2.1 j) = f j &&& 255) (μ := fun x => N + 20 - 20 * x.1) ?_ (0, b0, none, none) ⟨by dsimp only; omega, fun j hj => absurd hj (Nat.not_lt_zero j)⟩
  intro x hi ih
  obtain ⟨k, b, y1, y2⟩ := x
  dsimp only at hi ih ⊢
  obtain ⟨hi, hb⟩ := hi
  refine x_iload_n hC dX0_feed_2_2 (q := 3) rfl rfl ?_
  refine x_aloadr_n hC dX0_feed_2_3 (q := 4) rfl rfl ?_
  refine x_alen hC dX0_feed_2_4 (q := 5) rfl (n := (109, 0)) ((kmix_F _ _ _ rfl).trans hc) ?_
  refine x_icmp_ge hC dX0_feed_2_5 (q := 8) rfl (tgt := 98) rfl (fun h5 => ?_) (fun h5 => ?_)
  · have hk1 : N ≤ 20 * k := (nI_leI (by omega) (by omega)).mp h5
    refine x_aloadr_n hC dX0_feed_2_98 (q := 99) rfl rfl ?_
    refine x_aloadr_n hC dX0_feed_2_99 (q := 100) rfl rfl ?_
    refine x_alen hC dX0_feed_2_100 (q := 101) rfl (n := (109, 0)) ((kmix_F _ _ _ rfl).trans hc) ?_
    refine x_callV hC xv_X0_31 dX0_feed_2_101 (q := 104) rfl rfl (m_X2_end h0 (kTa σ b (20 * k)) gF N (by omega) (t := 20 * k) rfl hk1 (by omega)) (nn := (0, 0)) rfl rfl rfl (Nat.le_of_ble_eq_true rfl) ⟨(by (try dsimp only); omega), (by (try dsimp only); omega)⟩ ⟨(by (try dsimp only); omega), (by (try dsimp only); omega)⟩ (fun v g1 hp => ?_)
    rw [kTa_end] at hp
    obtain ⟨rfl, hg1⟩ := hp
    replace hg1 := hg1.symm
    subst hg1
    exact x_zret hC hr rfl dX0_feed_2_104 (by (try dsimp only); omega) (by (try dsimp only); omega) ⟨rfl, b, fun j hj => hb j (by omega) hj, rfl⟩
  have hk1 : 20 * k < N := Nat.not_le.mp (fun q => h5 (nI_le q (by omega)))
  refine x_iconst hC dX0_feed_2_8 (q := 9) rfl (v := (5)) (by decide) ?_
  refine x_newa hC (at0 := .int) (N := 5) (x := (5, .inl (fun _ => 0))) (110, 0) q159 dX0_feed_2_9 (q := 11) rfl rfl ((kmix_F _ _ _ rfl).trans hw) rfl (by decide) (fun _ => rfl) (by (try dsimp only); omega) (by (try dsimp only); omega) (fun a_9 => ?_)
  rw [kmix_xuF _ _ _ _ rfl]
  refine x_astorer_n hC dX0_feed_2_11 (q := 12) rfl rfl ?_
  refine x_iconst hC dX0_feed_2_12 (q := 13) rfl (v := (0)) (by decide) ?_
  refine x_istore hC dX0_feed_2_13 (q := 15) rfl rfl ?_
  refine x_geq (g' := kmix (kTa σ b (20 * k)) (xu gF (110, 0) (some (a_9, xAi .int 5 (kWd (kCc N f (20 * k)) 0))))) (by rw [kWd_0]; rfl) ?_
  refine x_loop (S := (fun x : Nat => ((1 * k + 1 : Nat), (5 * k + 5 : Nat), kmix (kTa σ b (20 * k)) (xu gF (110, 0) (some (a_9, xAi .int 5 (kWd (kCc N f (20 * k)) x)))), ([some (.ref (kA σ 0 0)), some (.ref ca), some (.int (nI (20 * k))), some (.ref a_9), some (.int (nI x))] : xL), ([] : List Value)))) (Inv := fun x => x ≤ 20) (μ := fun x => 20 - x) ?_ 0 (Nat.zero_le _)
  intro j hj ih2
  dsimp only at hj ih2 ⊢
  refine x_iload hC dX0_feed_2_15 (q := 17) rfl rfl ?_
  refine x_bipush hC dX0_feed_2_17 (q := 19) rfl (v := (20)) (by decide) ?_
  refine x_icmp_ge hC dX0_feed_2_19 (q := 22) rfl (tgt := 68) rfl (fun h19 => ?_) (fun h19 => ?_)
  · have hj1 : j = 20 := by
      have := (nI_leI (a := 20) (by decide) (by omega)).mp h19
      omega
    subst hj1
    refine x_aloadr_n hC dX0_feed_2_68 (q := 69) rfl rfl ?_
    refine x_aloadr_n hC dX0_feed_2_69 (q := 70) rfl rfl ?_
    refine x_iconst hC dX0_feed_2_70 (q := 71) rfl (v := (0)) (by decide) ?_
    refine x_iald hC dX0_feed_2_71 (q := 72) rfl (n := (110, 0)) ((kmix_F _ _ _ rfl).trans (xu_eq _ _ _)) (j := 0) rfl (by decide) (by decide) ?_
    refine x_aloadr_n hC dX0_feed_2_72 (q := 73) rfl rfl ?_
    refine x_iconst hC dX0_feed_2_73 (q := 74) rfl (v := (1)) (by decide) ?_
    refine x_iald hC dX0_feed_2_74 (q := 75) rfl (n := (110, 0)) ((kmix_F _ _ _ rfl).trans (xu_eq _ _ _)) (j := 1) rfl (by decide) (by decide) ?_
    refine x_aloadr_n hC dX0_feed_2_75 (q := 76) rfl rfl ?_
    refine x_iconst hC dX0_feed_2_76 (q := 77) rfl (v := (2)) (by decide) ?_
    refine x_iald hC dX0_feed_2_77 (q := 78) rfl (n := (110, 0)) ((kmix_F _ _ _ rfl).trans (xu_eq _ _ _)) (j := 2) rfl (by decide) (by decide) ?_
    refine x_aloadr_n hC dX0_feed_2_78 (q := 79) rfl rfl ?_
    refine x_iconst hC dX0_feed_2_79 (q := 80) rfl (v := (3)) (by decide) ?_
    refine x_iald hC dX0_feed_2_80 (q := 81) rfl (n := (110, 0)) ((kmix_F _ _ _ rfl).trans (xu_eq _ _ _)) (j := 3) rfl (by decide) (by decide) ?_
    refine x_aloadr_n hC dX0_feed_2_81 (q := 82) rfl rfl ?_
    refine x_iconst hC dX0_feed_2_82 (q := 83) rfl (v := (4)) (by decide) ?_
    refine x_iald hC dX0_feed_2_83 (q := 84) rfl (n := (110, 0)) ((kmix_F _ _ _ rfl).trans (xu_eq _ _ _)) (j := 4) rfl (by decide) (by decide) ?_
    refine x_callV hC xv_X0_25 dX0_feed_2_84 (q := 87) rfl rfl (m_X2_feed h0 σ (xu gF (110, 0) (some (a_9, xAi .int 5 (kWd (kCc N f (20 * k)) 20)))) b (20 * k) (by omega) (fun q => kPk (fun t => kCc N f (20 * k) (4 * q + t)) 4)) (nn := (0, 0)) rfl rfl rfl (Nat.le_of_ble_eq_true rfl) ⟨(by (try dsimp only); omega), (by (try dsimp only); omega)⟩ ⟨(by (try dsimp only); omega), (by (try dsimp only); omega)⟩ (fun v g1 hp => ?_)
    obtain ⟨rfl, hg1⟩ := hp
    replace hg1 := hg1.symm
    subst hg1
    refine x_sub (g' := kmix (kTa σ (kFe b (20 * k) (fun q => kPk (fun t => kCc N f (20 * k) (4 * q + t)) 4) 5) (20 * k + 20)) gF) (kmix_sub1 hw rfl) ?_
    have hb2 : ∀ j, j < 20 * (k + 1) → j < N → iI (kFe b (20 * k) (fun q => kPk (fun t => kCc N f (20 * k) (4 * q + t)) 4) 5 j) = f j &&& 255 := by
      intro j h1 h2
      rw [kFe_at]
      by_cases h3 : 20 * k ≤ j ∧ j < 20 * k + 4 * 5
      · rw [if_pos h3, iI_self, kBw_pk (fun t => kCc_255 _ _ _ _) (by omega), show 4 * ((j - 20 * k) / 4) + (j - 20 * k) % 4 = j - 20 * k by omega]
        unfold kCc
        rw [if_pos (by omega), show 20 * k + (j - 20 * k) = j by omega]
      · rw [if_neg h3]
        exact hb j (by omega) h2
    refine x_if_ge hC dX0_feed_2_87 (q := 90) rfl (tgt := 92) rfl (fun h87 => ?_) (fun h87 => ?_)
    · have hk2 := hk1
      refine x_iinc hC dX0_feed_2_92 (q := 95) rfl rfl (v := nI (20 * (k + 1))) (by rw [show Int32.ofInt 20 = nI 20 from rfl, nI_add]; congr 1) ?_
      refine x_goto hC dX0_feed_2_95 (tgt := 2) rfl ?_
      exact x_widen (by (try dsimp only); omega) (by (try dsimp only); omega) (ih (k + 1, kFe b (20 * k) (fun q => kPk (fun t => kCc N f (20 * k) (4 * q + t)) 4) 5, _, _) ⟨by (try dsimp only); omega, hb2⟩ (by (try dsimp only); omega))
    · exact absurd (show (0 : Int32) ≤ nI (20 * k + 20) from nI_le (a := 0) (Nat.zero_le _) (by omega)) h87
  have hj1 : j < 20 := Nat.not_le.mp (fun q => h19 (nI_le (a := 20) q (by omega)))
  refine x_aloadr_n hC dX0_feed_2_22 (q := 23) rfl rfl ?_
  refine x_iload hC dX0_feed_2_23 (q := 25) rfl rfl ?_
  refine x_iconst hC dX0_feed_2_25 (q := 26) rfl (v := (4)) (by decide) ?_
  refine x_idiv hC dX0_feed_2_26 (q := 27) rfl (by decide) ?_
  refine x_aloadr_n hC dX0_feed_2_27 (q := 28) rfl rfl ?_
  refine x_iload hC dX0_feed_2_28 (q := 30) rfl rfl ?_
  refine x_iconst hC dX0_feed_2_30 (q := 31) rfl (v := (4)) (by decide) ?_
  refine x_idiv hC dX0_feed_2_31 (q := 32) rfl (by decide) ?_
  refine x_iald hC dX0_feed_2_32 (q := 33) rfl (n := (110, 0)) ((kmix_F _ _ _ rfl).trans (xu_eq _ _ _)) (j := j / 4) (nI_div (by omega) (by decide) (by decide)) (by omega) (by decide) ?_
  refine x_bipush hC dX0_feed_2_33 (q := 35) rfl (v := (8)) (by decide) ?_
  refine x_ishl hC dX0_feed_2_35 (q := 36) rfl ?_
  refine x_iload_n hC dX0_feed_2_36 (q := 37) rfl rfl ?_
  refine x_iload hC dX0_feed_2_37 (q := 39) rfl rfl ?_
  refine x_iadd hC dX0_feed_2_39 (q := 40) rfl ?_
  refine x_aloadr_n hC dX0_feed_2_40 (q := 41) rfl rfl ?_
  refine x_alen hC dX0_feed_2_41 (q := 42) rfl (n := (109, 0)) ((kmix_F _ _ _ rfl).trans ((xu_ne (n_fst rfl)).trans hc)) ?_
  rw [nI_add]
  refine x_icmp_ge hC dX0_feed_2_42 (q := 45) rfl (tgt := 58) rfl (fun h42 => ?_) (fun h42 => ?_)
  · have hcc : kCc N f (20 * k) j = 32 := if_neg (fun q => absurd ((nI_leI (a := N) (b := 20 * k + j) (by omega) (by omega)).mp h42) (by omega))
    refine x_bipush hC dX0_feed_2_58 (q := 60) rfl (v := (32)) (by decide) ?_
    refine x_ior hC dX0_feed_2_60 (q := 61) rfl ?_
    rw [← hcc]
    refine x_iast hC dX0_feed_2_61 (q := 62) rfl (n := (110, 0)) rfl ((kmix_F _ _ _ rfl).trans (xu_eq _ _ _)) (j := j / 4) (nI_div (by omega) (by decide) (by decide)) (by omega) (by decide) ?_
    rw [kmix_xuF _ _ _ _ rfl, xu_xu, kWd_up _ hj1]
    refine x_iinc hC dX0_feed_2_62 (q := 65) rfl rfl (v := nI (j + 1)) (nI_1 j) ?_
    refine x_goto hC dX0_feed_2_65 (tgt := 15) rfl ?_
    exact ih2 (j + 1) (by (try dsimp only); omega) (by (try dsimp only); omega)
  have hlt : 20 * k + j < N := Nat.not_le.mp (fun q => h42 (nI_le q (by omega)))
  have hcc : kCc N f (20 * k) j = f (20 * k + j) &&& 255 := if_pos hlt
  refine x_aloadr_n hC dX0_feed_2_45 (q := 46) rfl rfl ?_
  refine x_iload_n hC dX0_feed_2_46 (q := 47) rfl rfl ?_
  refine x_iload hC dX0_feed_2_47 (q := 49) rfl rfl ?_
  refine x_iadd hC dX0_feed_2_49 (q := 50) rfl ?_
  refine x_iald hC dX0_feed_2_50 (q := 51) rfl (n := (109, 0)) ((kmix_F _ _ _ rfl).trans ((xu_ne (n_fst rfl)).trans hc)) (j := 20 * k + j) (nI_add _ _) hlt (by omega) ?_
  refine x_sipush hC dX0_feed_2_51 (q := 54) rfl (v := (255)) (by decide) ?_
  refine x_iand hC dX0_feed_2_54 (q := 55) rfl ?_
  refine x_goto hC dX0_feed_2_55 (tgt := 60) rfl ?_
  refine x_ior hC dX0_feed_2_60 (q := 61) rfl ?_
  rw [← hcc]
  refine x_iast hC dX0_feed_2_61 (q := 62) rfl (n := (110, 0)) rfl ((kmix_F _ _ _ rfl).trans (xu_eq _ _ _)) (j := j / 4) (nI_div (by omega) (by decide) (by decide)) (by omega) (by decide) ?_
  rw [kmix_xuF _ _ _ _ rfl, xu_xu, kWd_up _ hj1]
  refine x_iinc hC dX0_feed_2_62 (q := 65) rfl rfl (v := nI (j + 1)) (nI_1 j) ?_
  refine x_goto hC dX0_feed_2_65 (tgt := 15) rfl ?_
  exact ih2 (j + 1) (by (try dsimp only); omega) (by (try dsimp only); omega)
