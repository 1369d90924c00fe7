/-! isSeen -/
theorem kenc_Ta (σ : KS) {b b' : Nat → Int} (N : Nat) (h : ∀ j, iI (b j) = iI (b' j)) (k i : Nat) : kenc (kTa σ b N) k i = kenc (kTa σ b' N) k i := by
  have e : (fun j => iI (b j)) = fun j => iI (b' j) := funext h
  by_cases hk : k = 1
  · subst hk
    match i with
    | 0 =>
      show some (_, xAi .char 1600 (fun j => iI (b j))) = some (_, xAi .char 1600 (fun j => iI (b' j)))
      rw [e]
      rfl
    | n + 1 => rfl
  · unfold kenc
    split <;> first | rfl | exact absurd rfl hk
theorem kmix_Ta (σ : KS) (gF : xG) {b b' : Nat → Int} (N : Nat) (h : ∀ j, iI (b j) = iI (b' j)) : kmix (kTa σ b N) gF = kmix (kTa σ b' N) gF := by
  funext n
  unfold kmix
  cases Nat.blt n.1 40 with
  | true => exact kenc_Ta σ N h n.1 n.2
  | false => rfl
theorem kTa_z {σ : KS} (h : kI σ 0 0 = 0) : kTa σ (kV σ 0 0) 0 = σ := by
  have e1 : (fun f k => if f = 0 ∧ k = 0 then ((0 : Nat) : Int) else kI σ f k) = kI σ := by
    funext f k
    by_cases e : f = 0 ∧ k = 0
    · rw [if_pos e, e.1, e.2, h]; rfl
    · rw [if_neg e]
  have e2 : (fun f k j => if f = 0 ∧ k = 0 then kV σ 0 0 j else kV σ f k j) = kV σ := by
    funext f k j
    by_cases e : f = 0 ∧ k = 0
    · rw [if_pos e, e.1, e.2]
    · rw [if_neg e]
  exact KS_ext e1 rfl rfl e2 rfl
/-- feed, where the tape is empty: what lies on it then, in numbers -/
theorem m_feed_n {l : Launch} {s0 : State} {D : va_G} (h0 : x0 l s0 D) (σ : KS) (gF : xG) (ht : kI σ 0 0 = 0) {ca N : Nat} {f : Nat → Int32} {w : Nat → Nat} (hc : gF (109, 0) = some (ca, xAi .int N f)) (hw : gF (110, 0) = none) (hN : N ≤ 1500) (hf : ∀ j, j < N → w j < 256 ∧ f j = nI (w j)) : xMet l s0 D yX0_feed_2 cX0_feed_2 5 (some .boolean) (xr 4 80 400 120) [.ref (kA σ 0 0), .ref ca] (kmix σ gF) (fun r g1 => r = some (.int 1) ∧ ∃ b, (∀ j, j < N → b j = (w j : Int)) ∧ g1 = kmix (kTa σ b N) gF) := by
  have h := m_X0_feed_2 h0 σ gF (kV σ 0 0) hc hw hN
  rw [kTa_z ht] at h
  refine h.post ?_
  rintro r g1 ⟨h1, b, h2, h3⟩
  refine ⟨h1, fun j => (iI (b j)).toInt, fun j hj => ?_, h3.trans (kmix_Ta σ gF N (fun j => (toI _).symm))⟩
  obtain ⟨w1, w2⟩ := hf j hj
  show (iI (b j)).toInt = _
  rw [h2 j hj, w2]
  obtain ⟨j2, hj2, e2⟩ := pk_andE (nI (w j)) (m := 255) 8 rfl
  have e3 : nI (w j) &&& 255 = nI (w j) := b_ext (fun i hi => by
    rw [b_and, b_255]
    cases hb : bt (nI (w j)) i with
    | false => rfl
    | true =>
      have : i < 8 := by
        refine Nat.lt_of_not_le (fun hge => ?_)
        have hlt : bt (nI (w j)) i = (w j).testBit i := by
          unfold bt
          show (BitVec.ofNat 32 (w j)).getLsbD i = _
          rw [BitVec.getLsbD_ofNat]
          simp [hi]
        rw [hlt, Nat.testBit_lt_two_pow (Nat.lt_of_lt_of_le w1 (Nat.pow_le_pow_right (by decide) hge : 2 ^ 8 ≤ 2 ^ i))] at hb
        cases hb
      rw [decide_eq_true this]; rfl)
  rw [e3, nI_toInt (by omega)]
/-- the state as the image wants it -/
def LI (gF : xG) (α : aA) (d0 : Nat) (σ : KS) : Prop := KSt gF (aFo α) d0 σ ∧ LT σ α ∧ KMk σ ∧ KRw σ ∧ (0 ≤ kI σ 7 0 ∧ kI σ 7 0 ≤ 9999) ∧ (∀ c, c < kA σ 61 0 → kI σ 34 c = -1 → kI σ 36 c = 0) ∧ kI σ 0 0 = 0
theorem LSt.li {gF : xG} {α : aA} {d0 : Nat} {σ : KS} (h : LSt gF α d0 σ) : LI gF α d0 σ := ⟨h.1, h.2.1, h.2.2.2.1, h.2.2.2.2.1, h.2.2.2.2.2.2.1, h.2.2.2.2.2.2.2.1, h.2.2.2.2.2.2.2.2.1⟩
theorem see_KSt {gF : xG} {F : Nat → Option (aEnv → Int64)} {d0 : Nat} {σ : KS} (h : KSt gF F d0 σ) (b : Nat → Int) (N : Nat) (z : Int) (d v : Nat) (r : Nat → Int) (f : aEnv) : KSt gF F d0 (kT (kSn (kAs (kIs (kIs (kTa σ b N) 0 0 0) 17 0 z) 64 0 0) d v r) f) := by
  obtain ⟨b1, b2, b3, b4, b5, b6, b7, b8, b9⟩ := h
  refine ⟨b1, ⟨⟨b2.1.1, b2.1.2.1, fun s s1 s2 => ?_, b2.1.2.2.2.1, b2.1.2.2.2.2.1, b2.1.2.2.2.2.2⟩, b2.2⟩, b3, b4, b5, b6, b7, b8, b9⟩
  have hs := b2.1.2.2.1 s s1 s2
  by_cases e : s = 64
  · subst e
    exact ⟨by show (1 : Nat) ≤ 10; decide, by show (10 : Nat) < 1048576; decide⟩
  · show (if s = 64 ∧ 0 = 0 then 1 else if s = 15 ∧ 0 = 0 then v else if s = 14 ∧ 0 = 0 then d else if s = 74 ∧ 0 = 0 then 10 else if s = 64 ∧ 0 = 0 then 0 else kA σ s 0) ≤ (if s + 10 = 64 ∧ 0 = 0 then 1 else if s + 10 = 15 ∧ 0 = 0 then v else if s + 10 = 14 ∧ 0 = 0 then d else if s + 10 = 74 ∧ 0 = 0 then 10 else if s + 10 = 64 ∧ 0 = 0 then 0 else kA σ (s + 10) 0) ∧ (if s + 10 = 64 ∧ 0 = 0 then 1 else if s + 10 = 15 ∧ 0 = 0 then v else if s + 10 = 14 ∧ 0 = 0 then d else if s + 10 = 74 ∧ 0 = 0 then 10 else if s + 10 = 64 ∧ 0 = 0 then 0 else kA σ (s + 10) 0) < 1048576
    rw [if_neg (by omega), if_neg (by omega), if_neg (by omega), if_neg (by omega), if_neg (by omega), if_neg (by omega), if_neg (by omega), if_neg (by omega), if_neg (by omega), if_neg (by omega)]
    exact hs
theorem kAH_all : kAH (fun _ => true) 21 = 2097151 := by decide +kernel

theorem seen_b {F : Nat → Option (aEnv → Int64)} {σ2 : KS} {gF2 : xG} {c : Nat} {x y z : Int32} {r : Option Value} {g1 : xG} (hq : ∃ f1, r = some (.int (if kTemp F σ2 c x y = z then 1 else 0)) ∧ g1 = kmix (kT σ2 f1) gF2) : ∃ f1, r = some (.int (if decide (kTemp F σ2 c x y = z) = true then 1 else 0)) ∧ g1 = kmix (kT σ2 f1) gF2 := by
  obtain ⟨f1, h1, h2⟩ := hq
  refine ⟨f1, h1.trans ?_, h2⟩
  by_cases e : kTemp F σ2 c x y = z
  · rw [if_pos e, if_pos (decide_eq_true e)]
  · rw [if_neg e, if_neg (fun w => e (of_decide_eq_true w))]

set_option maxHeartbeats 4000000 in
set_option maxRecDepth 100000 in
theorem m_X0_isSeen {l : Launch} {s0 : State} {D : va_G} (h0 : x0 l s0 D) (σ : KS) (gF : xG) {aa d0 c p hh : Nat} {α : aA} (hok : aOk α) (hL : LSt gF α d0 σ) (hFo : KFo s0 gF d0) (hL0 : gF (2000, 0) = none) (h109 : gF (109, 0) = none) (h110 : gF (110, 0) = none) (hc : c < aI α 0) (hp5 : p < 6) (hh20 : hh ≤ 20)  : xMet l s0 D yX0_isSeen cX0_isSeen 8 (some .boolean) (xr 45 90 430 3200) [.ref (kA σ 0 0), .ref aa, .int (nI c), .int (nI p), .int (nI hh)] (kmix σ gF) (fun r g1 => ∃ ρ, r = some (.int 1) ∧ LI gF α d0 ρ ∧ kA ρ 0 0 = kA σ 0 0 ∧ kI ρ 3 0 = kI σ 3 0 ∧ g1 = kmix ρ gF) := by
  have hw := hL.1.2.1.1
  have hc2 : c < kA σ 61 0 := by rw [hL.2.1.1]; exact hc
  have ht0 : kI σ 0 0 = 0 := hL.2.2.2.2.2.2.2.2.1
  have h64 : kA σ 64 0 = 0 := hL.2.2.2.2.2.2.2.2.2.1
  have h74 : kA σ 74 0 = 0 := hL.2.2.2.2.2.2.2.2.2.2.1
  have h14 : kA σ 14 0 = d0 := hL.2.2.2.2.2.2.2.2.2.2.2.1
  have hb0 := hok.1
  have hxe : ∀ z, xE0 s0 (xu gF (109, 0) z) (kA σ 14 0) := fun z => by rw [h14]; exact hFo.1.up rfl z
  refine xMet.of h0 (by decide +kernel) rfl ?_
  intro zp ze zs zm za zb zf zc hC hr hnm
  refine x_geq (g' := kmix (kT σ (kL σ 0)) gF) (by rw [kT_self]) ?_
  refine x_aloadr_n hC dX0_isSeen_0 (q := 1) rfl rfl ?_
  refine x_iload_n hC dX0_isSeen_1 (q := 2) rfl rfl ?_
  refine x_iload hC dX0_isSeen_2 (q := 4) rfl rfl ?_
  refine x_iload_n hC dX0_isSeen_4 (q := 5) rfl rfl ?_
  refine x_callV hC xv_X0_97 dX0_isSeen_5 (q := 8) rfl rfl (m_X2_rings h0 σ gF (kL σ 0) hL.1.1 hw c hc2 (nI hh) (nI p) ⟨by rw [nI_toInt (by omega)]; omega, by rw [nI_toInt (by omega)]; omega⟩ ⟨by rw [nI_toInt (by omega)]; omega, by rw [nI_toInt (by omega)]; omega⟩) (nn := (0, 0)) rfl rfl rfl (Nat.le_of_ble_eq_true rfl) ⟨(by (try dsimp only); omega), (by (try dsimp only); omega)⟩ ⟨(by (try dsimp only); omega), (by (try dsimp only); omega)⟩ (fun v g1 hp => ?_)
  obtain ⟨f1, rfl, hg1⟩ := hp
  subst hg1
  obtain ⟨z, hz1, hz2, hz3⟩ := aTempR hok hL.2.1 hc hh20 (show p ≤ 6 by omega)
  obtain ⟨tz, htz, htz9⟩ : ∃ tz : Nat, kTemp (aFo α) σ c (nI hh) (nI p) = nI tz ∧ tz ≤ 99 := ⟨z.toNat, by rw [hz1, ← iI_nat]; congr 1; omega, by omega⟩
  rw [htz]
  refine x_istore hC dX0_isSeen_8 (q := 10) rfl rfl ?_
  refine x_iconst hC dX0_isSeen_10 (q := 11) rfl (v := (0)) (by decide) ?_
  refine x_istore hC dX0_isSeen_11 (q := 13) rfl rfl ?_
  refine x_iconst hC dX0_isSeen_13 (q := 14) rfl (v := (0)) (by decide) ?_
  refine x_istore hC dX0_isSeen_14 (q := 16) rfl rfl ?_
  refine x_loop (S := (fun x : Nat × aEnv => ((0 : Nat), (0 : Nat), kmix (kT σ x.2) gF, ([some (.ref (kA σ 0 0)), some (.ref aa), some (.int (nI c)), some (.int (nI p)), some (.int (nI hh)), some (.int (nI tz)), some (.int (kAH (fun h => decide (kTemp (aFo α) σ c (nI h) (nI p) = nI tz)) x.1)), some (.int (nI x.1))] : xL), ([] : List Value)))) (Inv := fun x => x.1 ≤ 21) (μ := fun x => 21 - x.1) ?_ (0, f1) (Nat.zero_le _)
  intro x hi ih
  obtain ⟨h, f2⟩ := x
  dsimp only at hi ih ⊢
  refine x_iload hC dX0_isSeen_16 (q := 18) rfl rfl ?_
  refine x_bipush hC dX0_isSeen_18 (q := 20) rfl (v := (20)) (by decide) ?_
  refine x_icmp_gt hC dX0_isSeen_20 (q := 23) rfl (tgt := 55) rfl (fun h20 => ?_) (fun h20 => ?_)
  · have hh21 : h = 21 := by
      have := (nI_ltI (a := 20) (b := h) (by decide) (by omega)).mp h20
      omega
    subst hh21
    refine x_iconst hC dX0_isSeen_55 (q := 56) rfl (v := (3)) (by decide) ?_
    refine x_newa hC (at0 := .int) (N := 3) (x := (3, .inl (fun _ => 0))) (109, 0) q159 dX0_isSeen_56 (q := 58) rfl rfl ((kmix_F _ _ _ rfl).trans h109) rfl (by decide) (fun _ => rfl) (Nat.le_of_ble_eq_true rfl) (Nat.le_of_ble_eq_true rfl) (fun a_56 => ?_)
    refine x_dup hC dX0_isSeen_58 (q := 59) rfl rfl ?_
    refine x_iconst hC dX0_isSeen_59 (q := 60) rfl (v := (0)) (by decide) ?_
    refine x_iload_n hC dX0_isSeen_60 (q := 61) rfl rfl ?_
    refine x_iast hC dX0_isSeen_61 (q := 62) rfl (n := (109, 0)) rfl (xu_eq _ _ _) (j := 0) rfl (by decide) (by decide) ?_
    refine x_dup hC dX0_isSeen_62 (q := 63) rfl rfl ?_
    refine x_iconst hC dX0_isSeen_63 (q := 64) rfl (v := (1)) (by decide) ?_
    refine x_iload_n hC dX0_isSeen_64 (q := 65) rfl rfl ?_
    refine x_iast hC dX0_isSeen_65 (q := 66) rfl (n := (109, 0)) rfl (xu_eq _ _ _) (j := 1) rfl (by decide) (by decide) ?_
    refine x_dup hC dX0_isSeen_66 (q := 67) rfl rfl ?_
    refine x_iconst hC dX0_isSeen_67 (q := 68) rfl (v := (2)) (by decide) ?_
    refine x_iload hC dX0_isSeen_68 (q := 70) rfl rfl ?_
    refine x_iast hC dX0_isSeen_70 (q := 71) rfl (n := (109, 0)) rfl (xu_eq _ _ _) (j := 2) rfl (by decide) (by decide) ?_
    obtain ⟨f3, hf3⟩ : ∃ z, z = f2 := ⟨_, rfl⟩
    subst hf3
    refine x_geq (g' := kmix (kT σ f3) (xu gF (109, 0) (some (a_56, xAi .int 3 (upd (upd (upd (fun _ => 0) 0 (nI c)) 1 (nI p)) 2 (nI tz)))))) (by rw [xu_xu, xu_xu, xu_xu, kmix_xuF _ _ _ _ rfl]) ?_
    refine x_astorer hC dX0_isSeen_71 (q := 73) rfl rfl ?_
    refine x_aloadr_n hC dX0_isSeen_73 (q := 74) rfl rfl ?_
    refine x_callV hC xv_X0_307 dX0_isSeen_74 (q := 77) rfl rfl (m_X2_seen h0 σ (xu gF (109, 0) (some (a_56, xAi .int 3 (upd (upd (upd (fun _ => 0) 0 (nI c)) 1 (nI p)) 2 (nI tz))))) f3 (b := fun _ => true) ((xu_ne (n_fst rfl)).trans hL0) (fun gF2 _ h _ f2 => (m_isAsSeen_0 h0 σ gF2 f2 h64 (nI h)).post (fun r g1 h => ⟨f2, h⟩))) (nn := (0, 0)) rfl rfl rfl (Nat.le_of_ble_eq_true rfl) ⟨(by (try dsimp only); omega), (by (try dsimp only); omega)⟩ ⟨(by (try dsimp only); omega), (by (try dsimp only); omega)⟩ (fun v g1 hp => ?_)
    rw [kAH_all] at hp
    obtain ⟨f4, rfl, hg1⟩ := hp
    subst hg1
    refine x_ldc_w hC dX0_isSeen_77 (q := 80) rfl q2096 ?_
    refine x_icmp_ne hC dX0_isSeen_80 (q := 83) rfl (tgt := 123) rfl (fun h80 => ?_) (fun h80 => ?_)
    · exact absurd rfl h80
    refine x_aloadr_n hC dX0_isSeen_83 (q := 84) rfl rfl ?_
    refine x_aloadr hC dX0_isSeen_84 (q := 86) rfl rfl ?_
    refine x_callS hC xv_X0_45 dX0_isSeen_86 (q := 89) rfl rfl (m_feed_n h0 (kT σ f4) (xu gF (109, 0) (some (a_56, xAi .int 3 (upd (upd (upd (fun _ => 0) 0 (nI c)) 1 (nI p)) 2 (nI tz))))) ht0 (w := fun j => if j = 0 then c else if j = 1 then p else tz) (xu_eq _ _ _) ((xu_ne (n_fst rfl)).trans h110) (by decide) (fun j hj => by
      have : j = 0 ∨ j = 1 ∨ j = 2 := by omega
      rcases this with e | e | e <;> subst e
      · exact ⟨by show c < 256; omega, rfl⟩
      · exact ⟨by show p < 256; omega, rfl⟩
      · exact ⟨by show tz < 256; omega, rfl⟩)) rfl (Nat.le_of_ble_eq_true rfl) ⟨(by (try dsimp only); omega), (by (try dsimp only); omega)⟩ ⟨(by (try dsimp only); omega), (by (try dsimp only); omega)⟩ (fun v g1 hp => ?_)
    obtain ⟨rfl, b, hb, hg1⟩ := hp
    subst hg1
    have b0 : b 0 = (c : Int) := hb 0 (by decide)
    have b1 : b 1 = (p : Int) := hb 1 (by decide)
    have b2 : b 2 = (tz : Int) := hb 2 (by decide)
    rw [show kA σ 0 0 = kA (kTa (kT σ f4) b 3) 0 0 from rfl]
    refine x_if_eq hC dX0_isSeen_89 (q := 92) rfl (tgt := 123) rfl (fun h89 => ?_) (fun h89 => ?_)
    · exact absurd h89 (by decide)
    refine x_aloadr_n hC dX0_isSeen_92 (q := 93) rfl rfl ?_
    refine x_callV hC xv_X0_311 dX0_isSeen_93 (q := 96) rfl rfl (m_see h0 (kTa (kT σ f4) b 3) (xu gF (109, 0) (some (a_56, xAi .int 3 (upd (upd (upd (fun _ => 0) 0 (nI c)) 1 (nI p)) 2 (nI tz))))) hw c p tz hc2 (by omega) htz9 b0 b1 b2 rfl ((xu_ne (n_fst rfl)).trans (hFo.at 53 0 (by decide) (by decide))) h74 (hxe _)) (nn := (0, 0)) rfl rfl rfl (Nat.le_of_ble_eq_true rfl) ⟨(by (try dsimp only); omega), (by (try dsimp only); omega)⟩ ⟨(by (try dsimp only); omega), (by (try dsimp only); omega)⟩ (fun v g1 hp => ?_)
    obtain ⟨dd, vv, rfl, hg1⟩ := hp
    subst hg1
    rw [show kA (kTa (kT σ f4) b 3) 0 0 = kA (kSn (kAs (kIs (kIs (kTa (kT σ f4) b 3) 0 0 0) 17 0 (kI (kTa (kT σ f4) b 3) 17 0 + 1)) 64 0 0) dd vv (kRw3 c p tz)) 0 0 from rfl]
    refine x_iconst hC dX0_isSeen_96 (q := 97) rfl (v := (1)) (by decide) ?_
    refine x_icmp_ne hC dX0_isSeen_97 (q := 100) rfl (tgt := 123) rfl (fun h97 => ?_) (fun h97 => ?_)
    · exact absurd rfl h97
    refine x_aloadr_n hC dX0_isSeen_100 (q := 101) rfl rfl ?_
    refine x_bipush hC dX0_isSeen_101 (q := 103) rfl (v := (9)) (by decide) ?_
    refine x_callV hC xv_X0_73 dX0_isSeen_103 (q := 106) rfl rfl (m_X2_has_9 h0 (kSn (kAs (kIs (kIs (kTa (kT σ f4) b 3) 0 0 0) 17 0 (kI (kTa (kT σ f4) b 3) 17 0 + 1)) 64 0 0) dd vv (kRw3 c p tz)) (xu gF (109, 0) (some (a_56, xAi .int 3 (upd (upd (upd (fun _ => 0) 0 (nI c)) 1 (nI p)) 2 (nI tz)))))) (nn := (0, 0)) rfl rfl rfl (Nat.le_of_ble_eq_true rfl) ⟨(by (try dsimp only); omega), (by (try dsimp only); omega)⟩ ⟨(by (try dsimp only); omega), (by (try dsimp only); omega)⟩ (fun v g1 hp => ?_)
    obtain ⟨rfl, hg1⟩ := hp
    replace hg1 := hg1.symm
    subst hg1
    refine x_iconst hC dX0_isSeen_106 (q := 107) rfl (v := (1)) (by decide) ?_
    refine x_icmp_ne hC dX0_isSeen_107 (q := 110) rfl (tgt := 123) rfl (fun h107 => ?_) (fun h107 => ?_)
    · exact absurd rfl h107
    refine x_geq (g' := kmix (kT (kSn (kAs (kIs (kIs (kTa (kT σ f4) b 3) 0 0 0) 17 0 (kI (kTa (kT σ f4) b 3) 17 0 + 1)) 64 0 0) dd vv (kRw3 c p tz)) (kL (kSn (kAs (kIs (kIs (kTa (kT σ f4) b 3) 0 0 0) 17 0 (kI (kTa (kT σ f4) b 3) 17 0 + 1)) 64 0 0) dd vv (kRw3 c p tz)) 0)) (xu gF (109, 0) (some (a_56, xAi .int 3 (upd (upd (upd (fun _ => 0) 0 (nI c)) 1 (nI p)) 2 (nI tz)))))) (by rw [kT_self]) ?_
    refine x_aloadr_n hC dX0_isSeen_110 (q := 111) rfl rfl ?_
    refine x_callV hC xv_X0_307 dX0_isSeen_111 (q := 114) rfl rfl (m_X2_seen h0 (kSn (kAs (kIs (kIs (kTa (kT σ f4) b 3) 0 0 0) 17 0 (kI (kTa (kT σ f4) b 3) 17 0 + 1)) 64 0 0) dd vv (kRw3 c p tz)) (xu gF (109, 0) (some (a_56, xAi .int 3 (upd (upd (upd (fun _ => 0) 0 (nI c)) 1 (nI p)) 2 (nI tz))))) (kL (kSn (kAs (kIs (kIs (kTa (kT σ f4) b 3) 0 0 0) 17 0 (kI (kTa (kT σ f4) b 3) 17 0 + 1)) 64 0 0) dd vv (kRw3 c p tz)) 0) (b := (fun h => decide (kTemp (aFo α) σ c (nI h) (nI p) = nI tz))) ((xu_ne (n_fst rfl)).trans hL0) (fun gF2 hsb h _ f2 => (m_isAsSeen_1 h0 (kSn (kAs (kIs (kIs (kTa (kT σ f4) b 3) 0 0 0) 17 0 (kI (kTa (kT σ f4) b 3) 17 0 + 1)) 64 0 0) dd vv (kRw3 c p tz)) gF2 f2 (F := aFo α) (kF_mono (kF_mono hL.1.1 (xu_sub h109)) hsb) (see_KSt hL.1 b 3 _ dd vv _ f4).2.1.1 c p tz hc2 rfl rfl rfl rfl rfl (nI h)).post (fun r g1 hq => seen_b hq))) (nn := (0, 0)) rfl rfl rfl (Nat.le_of_ble_eq_true rfl) ⟨(by (try dsimp only); omega), (by (try dsimp only); omega)⟩ ⟨(by (try dsimp only); omega), (by (try dsimp only); omega)⟩ (fun v g1 hp => ?_)
    obtain ⟨f5, rfl, hg1⟩ := hp
    subst hg1
    refine x_iload hC dX0_isSeen_114 (q := 116) rfl rfl ?_
    refine x_icmp_ne hC dX0_isSeen_116 (q := 119) rfl (tgt := 123) rfl (fun h116 => ?_) (fun h116 => ?_)
    · exact absurd rfl h116
    refine x_iconst hC dX0_isSeen_119 (q := 120) rfl (v := (1)) (by decide) ?_
    refine x_goto hC dX0_isSeen_120 (tgt := 124) rfl ?_
    refine x_sub (g' := kmix (kT (kSn (kAs (kIs (kIs (kTa (kT σ f4) b 3) 0 0 0) 17 0 (kI (kTa (kT σ f4) b 3) 17 0 + 1)) 64 0 0) dd vv (kRw3 c p tz)) f5) gF) (kmix_sub1 h109 rfl) ?_
    exact x_zret hC hr rfl dX0_isSeen_124 (by (try dsimp only); omega) (by (try dsimp only); omega) ⟨_, rfl, ⟨see_KSt hL.1 b 3 _ dd vv _ f5, hL.2.1, hL.2.2.2.1, hL.2.2.2.2.1, hL.2.2.2.2.2.2.1, hL.2.2.2.2.2.2.2.1, rfl⟩, rfl, rfl, rfl⟩
  have hh1 : h ≤ 20 := Nat.not_lt.mp (fun w => h20 (nI_lt (a := 20) w (by omega)))
  refine x_iload hC dX0_isSeen_23 (q := 25) rfl rfl ?_
  refine x_aloadr_n hC dX0_isSeen_25 (q := 26) rfl rfl ?_
  refine x_iload_n hC dX0_isSeen_26 (q := 27) rfl rfl ?_
  refine x_iload hC dX0_isSeen_27 (q := 29) rfl rfl ?_
  refine x_iload_n hC dX0_isSeen_29 (q := 30) rfl rfl ?_
  refine x_callV hC xv_X0_97 dX0_isSeen_30 (q := 33) rfl rfl (m_X2_rings h0 σ gF f2 hL.1.1 hw c hc2 (nI h) (nI p) ⟨by rw [nI_toInt (by omega)]; omega, by rw [nI_toInt (by omega)]; omega⟩ ⟨by rw [nI_toInt (by omega)]; omega, by rw [nI_toInt (by omega)]; omega⟩) (nn := (0, 0)) rfl rfl rfl (Nat.le_of_ble_eq_true rfl) ⟨(by (try dsimp only); omega), (by (try dsimp only); omega)⟩ ⟨(by (try dsimp only); omega), (by (try dsimp only); omega)⟩ (fun v g1 hp => ?_)
  obtain ⟨f3, rfl, hg1⟩ := hp
  subst hg1
  refine x_iload hC dX0_isSeen_33 (q := 35) rfl rfl ?_
  refine x_icmp_ne hC dX0_isSeen_35 (q := 38) rfl (tgt := 45) rfl (fun h35 => ?_) (fun h35 => ?_)
  · have hnt : ¬ kTemp (aFo α) σ c (nI h) (nI p) = nI tz := h35
    refine x_iconst hC dX0_isSeen_45 (q := 46) rfl (v := (0)) (by decide) ?_
    refine x_ior hC dX0_isSeen_46 (q := 47) rfl ?_
    refine x_istore hC dX0_isSeen_47 (q := 49) rfl rfl ?_
    refine x_iinc hC dX0_isSeen_49 (q := 52) rfl rfl (v := nI (h + 1)) (nI_1 h) ?_
    refine x_goto hC dX0_isSeen_52 (tgt := 16) rfl ?_
    first
      | (have ih2 := ih (h + 1, f3) (by (try dsimp only); omega) (by (try dsimp only); omega)
         rw [show kAH (fun h => decide (kTemp (aFo α) σ c (nI h) (nI p) = nI tz)) (h + 1) = kAH (fun h => decide (kTemp (aFo α) σ c (nI h) (nI p) = nI tz)) h ||| ((1 : Int32) <<< (nI h &&& 31)) from if_pos (decide_eq_true hyt)] at ih2
         exact ih2)
      | (have ih2 := ih (h + 1, f3) (by (try dsimp only); omega) (by (try dsimp only); omega)
         rw [show kAH (fun h => decide (kTemp (aFo α) σ c (nI h) (nI p) = nI tz)) (h + 1) = kAH (fun h => decide (kTemp (aFo α) σ c (nI h) (nI p) = nI tz)) h from if_neg (fun w => hnt (of_decide_eq_true w)), ← Int32.or_zero (a := kAH (fun h => decide (kTemp (aFo α) σ c (nI h) (nI p) = nI tz)) h)] at ih2
         exact ih2)
  have hyt : kTemp (aFo α) σ c (nI h) (nI p) = nI tz := h35
  refine x_iconst hC dX0_isSeen_38 (q := 39) rfl (v := (1)) (by decide) ?_
  refine x_iload hC dX0_isSeen_39 (q := 41) rfl rfl ?_
  refine x_ishl hC dX0_isSeen_41 (q := 42) rfl ?_
  refine x_goto hC dX0_isSeen_42 (tgt := 46) rfl ?_
  refine x_ior hC dX0_isSeen_46 (q := 47) rfl ?_
  refine x_istore hC dX0_isSeen_47 (q := 49) rfl rfl ?_
  refine x_iinc hC dX0_isSeen_49 (q := 52) rfl rfl (v := nI (h + 1)) (nI_1 h) ?_
  refine x_goto hC dX0_isSeen_52 (tgt := 16) rfl ?_
  first
    | (have ih2 := ih (h + 1, f3) (by (try dsimp only); omega) (by (try dsimp only); omega)
       rw [show kAH (fun h => decide (kTemp (aFo α) σ c (nI h) (nI p) = nI tz)) (h + 1) = kAH (fun h => decide (kTemp (aFo α) σ c (nI h) (nI p) = nI tz)) h ||| ((1 : Int32) <<< (nI h &&& 31)) from if_pos (decide_eq_true hyt)] at ih2
       exact ih2)
    | (have ih2 := ih (h + 1, f3) (by (try dsimp only); omega) (by (try dsimp only); omega)
       rw [show kAH (fun h => decide (kTemp (aFo α) σ c (nI h) (nI p) = nI tz)) (h + 1) = kAH (fun h => decide (kTemp (aFo α) σ c (nI h) (nI p) = nI tz)) h from if_neg (fun w => hnt (of_decide_eq_true w)), ← Int32.or_zero (a := kAH (fun h => decide (kTemp (aFo α) σ c (nI h) (nI p) = nI tz)) h)] at ih2
       exact ih2)
