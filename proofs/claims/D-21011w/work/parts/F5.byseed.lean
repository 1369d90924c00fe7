/-! byTheSeed -/
def dz (s : Nat) : Nat := (1103515245 * s + 12345) % 2147483648
theorem dz_lt (s : Nat) : dz s < 2147483648 := Nat.mod_lt _ (by decide)
def seG (α : aA) (s : Nat) : Nat := if dz s / 64 % 100 < aI α 8 then 1 + dz (dz s) / 64 % 3 else 0
def seB (α : aA) (s : Nat) : Nat := if dz s / 64 % 100 < aI α 8 then dz (dz s) else dz s
theorem seG_lt (α : aA) (s : Nat) : seG α s < 4 := by
  unfold seG
  split <;> omega
theorem seB_lt (α : aA) (s : Nat) : seB α s < 2147483648 := by
  unfold seB
  split <;> exact dz_lt _
theorem lI_dv {a b : Nat} (ha : a < 9223372036854775808) (h0 : 0 < b) (hb : b < 4294967296) : lI (a : Int) / lI (b : Int) = lI ((a / b : Nat) : Int) := by
  have h1 : (lI (b : Int)).toInt = b := lI_toInt ⟨by omega, by omega⟩
  have h2 : (lI (a : Int)).toInt = a := lI_toInt ⟨by omega, by omega⟩
  have h3 : (lI (a : Int) / lI (b : Int)).toInt = ((a / b : Nat) : Int) := by
    rw [Int64.toInt_div_of_ne_right _ _ (fun q => by
      have := congrArg Int64.toInt q
      rw [h1] at this
      exact absurd this (by show ¬ (b : Int) = -1; omega)), h1, h2]
    exact (Int.ofNat_tdiv a b).symm
  rw [← lI_self (lI (a : Int) / lI (b : Int)), h3]
theorem lI_md {a b : Nat} (ha : a < 9223372036854775808) (h0 : 0 < b) (hb : b < 4294967296) : lI (a : Int) - lI (a : Int) / lI (b : Int) * lI (b : Int) = lI ((a % b : Nat) : Int) := by
  rw [lI_dv ha h0 hb, lI_mul, lI_sub]
  congr 1
  have h1 := Nat.div_add_mod a b
  have h2 : (a / b : Nat) * (b : Int) = ((b * (a / b) : Nat) : Int) := by rw [Nat.mul_comm]; exact (Int.natCast_mul _ _).symm
  rw [h2]
  omega
theorem kDraw_n {s : Nat} (h : s < 2147483648) : kDraw (lI (s : Int)) = lI (dz s : Nat) := by
  unfold kDraw
  have e : (1103515245 : Int64) * lI (s : Int) + 12345 = lI ((1103515245 * s + 12345 : Nat) : Int) := by
    rw [show (1103515245 : Int64) = lI 1103515245 from rfl, show (12345 : Int64) = lI 12345 from rfl, lI_mul, lI_add]
    exact congrArg lI (by omega)
  rw [e, show (2147483648 : Int64) = lI ((2147483648 : Nat) : Int) from rfl, lI_md (by omega) (by decide) (by decide)]
  rfl
theorem l32n {s : Nat} (h : s < 2147483648) : (lI (s : Int)).toInt32 = nI s := by
  rw [l32 (iB_nat h), iI_nat]
theorem kDr_n {s m : Nat} (h : s < 2147483648) (hm0 : 0 < m) (hm : m < 1000) : kDr (lI (s : Int)) (nI m) = nI (dz s / 64 % m) := by
  unfold kDr
  have hd := dz_lt s
  have e : dz s / 64 % m < m := Nat.mod_lt _ hm0
  rw [kDraw_n h, show (64 : Int64) = lI ((64 : Nat) : Int) from rfl, lI_dv (by omega) (by decide) (by decide), lI_n m (by omega), lI_md (by omega) hm0 (by omega), l32n (by omega)]
theorem kGu_n {σ : KS} {α : aA} (hok : aOk α) (hLW : LW σ α) {s : Nat} (h : s < 2147483648) (hs : kL σ 1 0 = lI (s : Int)) : kGu σ = nI (seG α s) ∧ kSe σ = lI (seB α s : Nat) := by
  have h8 := hok.2.2.2.2.2.2.2.2.1
  have hc : (kDr (kL σ 1 0) 100 < iI (kI σ 9 0)) ↔ dz s / 64 % 100 < aI α 8 := by
    rw [hs, show (100 : Int32) = nI 100 from rfl, kDr_n h (by decide) (by decide), hLW.2, iI_nat]
    exact nI_ltI (by omega) (by omega)
  unfold kGu kSe seG seB
  by_cases w : dz s / 64 % 100 < aI α 8
  · rw [if_pos w, if_pos w, if_pos (hc.mpr w), if_pos (hc.mpr w), hs, kDraw_n h, kDraw_n (dz_lt s), show (3 : Int32) = nI 3 from rfl, kDr_n (dz_lt s) (by decide) (by decide)]
    exact ⟨nI_add 1 _, rfl⟩
  · rw [if_neg w, if_neg w, if_neg (fun v => w (hc.mp v)), if_neg (fun v => w (hc.mp v)), hs, kDraw_n h]
    exact ⟨rfl, rfl⟩
theorem LSt.ls {gF : xG} {α : aA} {d0 : Nat} {σ : KS} (h : LSt gF α d0 σ) {s : Nat} (hs : s < 2147483648) : LSt gF α d0 (kLs σ 1 0 (lI (s : Int))) := by
  obtain ⟨a1, a2, a3, a4, a5, a6, a7, a8, a9, a10, a11, a12, -⟩ := h
  exact ⟨a1, a2, a3, a4, a5, a6, a7, a8, a9, a10, a11, a12, s, hs, rfl⟩
theorem m_chance_1 {l : Launch} {s0 : State} {D : va_G} (h0 : x0 l s0 D) (σ : KS) (gF : xG) (f : aEnv) {α : aA} {d0 : Nat} (hok : aOk α) (hL : LSt gF α d0 σ) (hFo : KFo s0 gF d0) (hwk : 0 ≤ kI σ 3 0 ∧ kI σ 3 0 ≤ 900) {s : Nat} (hs : s < 2147483648) (hsl : kL σ 1 0 = lI (s : Int)) : xMet l s0 D yX2_chance cX2_chance 5 (some .int) (xr 44 91 751 2000) [.ref (kA σ 0 0), .int 1] (kmix (kT σ f) gF) (fun r g1 => ∃ ρ, r = some (.int (if 0 < nI (seG α s) then 1 else 0)) ∧ kL ρ 1 0 = lI (seB α s : Nat) ∧ W1 gF α d0 (seG α s) σ ρ ∧ g1 = kmix ρ gF) := by
  have hG := hL.1
  obtain ⟨hgu, hse⟩ := kGu_n hok hL.2.2.1 hs hsl
  refine (m_X2_chance h0 σ gF f hG hFo ⟨hwk.1, by omega⟩).post ?_
  rintro r g1 ⟨f1, σ1, ρ1, rfl, hk, ⟨X, rfl, hX⟩, rfl⟩
  rw [hgu, hse] at hX ⊢
  have hL1 := hk.LSt hL
  have hLs := hL1.ls (seB_lt α s)
  have hB : Bk σ (kLs σ1 1 0 (lI (seB α s : Nat))) := hk.Bk
  have hX2 : kXr (kLs σ1 1 0 (lI (seB α s : Nat))) X (kWr (aFo α) (nI (seG α s)) (kLs σ1 1 0 (lI (seB α s : Nat))) (kA (kLs σ1 1 0 (lI (seB α s : Nat))) 62 0)) d0 := hX
  have hW := W1.mk (f := f1) hok (seG_lt α s) hwk hL hk hB hLs (fun ρ a => a) hX2
  refine ⟨_, rfl, ?_, hW, rfl⟩
  show kL (kWk (aFo α) (nI (seG α s)) (kLs σ1 1 0 (lI (seB α s : Nat)))) 1 0 = _
  rw [(kWk_P (F := aFo α) (gu := nI (seG α s)) (σ := kLs σ1 1 0 (lI (seB α s : Nat))) hLs.1.2.2.1).2.2.2.2.2]
  rfl

set_option maxHeartbeats 4000000 in
set_option maxRecDepth 100000 in
theorem m_byTheSeed_g {l : Launch} {s0 : State} {D : va_G} (h0 : x0 l s0 D) (σ : KS) (gF : xG) (f : aEnv) {ad aa d0 : Nat} {α : aA} {I : Nat → Int32} {V : Nat → Nat → Int32} {M : Nat → Nat → Nat → Int32} (hD : DW gF ad I V M) (hA : AH gF aa α) (hok : aOk α) (hL : LSt gF α d0 σ) (hFo : KFo s0 gF d0) (hAF : AF α σ I V M) (h140 : gF (140, 0) = none) (hwk : 0 ≤ kI σ 3 0 ∧ kI σ 3 0 ≤ 900) {s : Nat} (hs : s < 2147483648) (hsl : kL σ 1 0 = lI (s : Int)) (hgt : dz s / 64 % 100 < aI α 8) : xMet l s0 D yX0_byTheSeed cX0_byTheSeed 10 (some .boolean) (xr 46 200 1600 2100) [.ref (kA σ 0 0), .ref aa, .ref ad] (kmix (kT σ f) gF) (fun r g1 => ∃ ρ, r = some (.int 1) ∧ AR gF α d0 σ ρ ∧ g1 = kmix ρ gF) := by
  have hgs : (if 0 < nI (seG α s) then (1 : Int32) else 0) = 1 := by
    refine if_pos ((nI_ltI (a := 0) (b := seG α s) (by decide) (by have := seG_lt α s; omega)).mpr ?_)
    unfold seG
    rw [if_pos hgt]
    omega
  have hb8 := hok.2.2.2.2.2.2.2.2.1
  refine xMet.of h0 (by decide +kernel) rfl ?_
  intro zp ze zs zm za zb zf zc hC hr hnm
  refine x_aloadr_n hC dX0_byTheSeed_0 (q := 1) rfl rfl ?_
  refine x_bipush hC dX0_byTheSeed_1 (q := 3) rfl (v := (11)) (by decide) ?_
  refine x_callV hC xv_X0_73 dX0_byTheSeed_3 (q := 6) rfl rfl (m_X2_has_11 h0 (kT σ f) gF) (nn := (0, 0)) rfl rfl rfl (Nat.le_of_ble_eq_true rfl) ⟨(by (try dsimp only); omega), (by (try dsimp only); omega)⟩ ⟨(by (try dsimp only); omega), (by (try dsimp only); omega)⟩ (fun v g1 hp => ?_)
  rw [show (kL (kT σ f) 1 0).toInt32 = nI s from by rw [show kL (kT σ f) 1 0 = kL σ 1 0 from rfl, hsl, l32n hs]] at hp
  obtain ⟨rfl, hg1⟩ := hp
  replace hg1 := hg1.symm
  subst hg1
  refine x_istore_n hC dX0_byTheSeed_6 (q := 7) rfl rfl ?_
  refine x_iload_n hC dX0_byTheSeed_7 (q := 8) rfl rfl ?_
  refine x_callS hC xv_X0_254 dX0_byTheSeed_8 (q := 11) rfl rfl (m_X0_drawn h0 _ (nI s)) rfl (Nat.le_of_ble_eq_true rfl) ⟨(by (try dsimp only); omega), (by (try dsimp only); omega)⟩ ⟨(by (try dsimp only); omega), (by (try dsimp only); omega)⟩ (fun v g1 hp => ?_)
  rw [lI_n s hs, kDraw_n hs, l32n (dz_lt s)] at hp
  obtain ⟨rfl, hg1⟩ := hp
  replace hg1 := hg1.symm
  subst hg1
  refine x_istore hC dX0_byTheSeed_11 (q := 13) rfl rfl ?_
  refine x_iload hC dX0_byTheSeed_13 (q := 15) rfl rfl ?_
  refine x_callS hC xv_X0_254 dX0_byTheSeed_15 (q := 18) rfl rfl (m_X0_drawn h0 _ (nI (dz s))) rfl (Nat.le_of_ble_eq_true rfl) ⟨(by (try dsimp only); omega), (by (try dsimp only); omega)⟩ ⟨(by (try dsimp only); omega), (by (try dsimp only); omega)⟩ (fun v g1 hp => ?_)
  rw [lI_n _ (dz_lt s), kDraw_n (dz_lt s), l32n (dz_lt _)] at hp
  obtain ⟨rfl, hg1⟩ := hp
  replace hg1 := hg1.symm
  subst hg1
  refine x_istore hC dX0_byTheSeed_18 (q := 20) rfl rfl ?_
  refine x_iload hC dX0_byTheSeed_20 (q := 22) rfl rfl ?_
  refine x_bipush hC dX0_byTheSeed_22 (q := 24) rfl (v := (64)) (by decide) ?_
  refine x_idiv hC dX0_byTheSeed_24 (q := 25) rfl (by decide) ?_
  refine x_bipush hC dX0_byTheSeed_25 (q := 27) rfl (v := (100)) (by decide) ?_
  refine x_irem hC dX0_byTheSeed_27 (q := 28) rfl (by decide) ?_
  rw [show nI (dz s) / 64 - nI (dz s) / 64 / 100 * 100 = nI (dz s / 64 % 100) from by
    have := dz_lt s
    rw [show (64 : Int32) = nI 64 from rfl, show (100 : Int32) = nI 100 from rfl, nI_div (by omega) (by decide) (by decide), nI_mod (by omega) (by decide) (by decide)]]
  refine x_aloadr_n hC dX0_byTheSeed_28 (q := 29) rfl rfl ?_
  refine x_get hC xf_X0_154_0 dX0_byTheSeed_29 (q := 32) rfl (n := (101, 0)) (AHo hA) rfl ?_
  refine x_icmp_ge hC dX0_byTheSeed_32 (q := 35) rfl (tgt := 39) rfl (fun h32 => ?_) (fun h32 => ?_)
  · exact absurd ((nI_leI (by have := hok.2.2.2.2.2.2.2.2.1; omega) (by omega)).mp h32) (by omega)
  have hx32 := h32
  refine x_iconst hC dX0_byTheSeed_35 (q := 36) rfl (v := (1)) (by decide) ?_
  refine x_goto hC dX0_byTheSeed_36 (tgt := 40) rfl ?_
  refine x_istore hC dX0_byTheSeed_40 (q := 42) rfl rfl ?_
  refine x_iload hC dX0_byTheSeed_42 (q := 44) rfl rfl ?_
  refine x_if_eq hC dX0_byTheSeed_44 (q := 47) rfl (tgt := 59) rfl (fun h44 => ?_) (fun h44 => ?_)
  · exact absurd h44 (by decide)
  have hx44 := h44
  refine x_iconst hC dX0_byTheSeed_47 (q := 48) rfl (v := (1)) (by decide) ?_
  refine x_iload hC dX0_byTheSeed_48 (q := 50) rfl rfl ?_
  refine x_bipush hC dX0_byTheSeed_50 (q := 52) rfl (v := (64)) (by decide) ?_
  refine x_idiv hC dX0_byTheSeed_52 (q := 53) rfl (by decide) ?_
  refine x_iconst hC dX0_byTheSeed_53 (q := 54) rfl (v := (3)) (by decide) ?_
  refine x_irem hC dX0_byTheSeed_54 (q := 55) rfl (by decide) ?_
  refine x_iadd hC dX0_byTheSeed_55 (q := 56) rfl ?_
  refine x_goto hC dX0_byTheSeed_56 (tgt := 60) rfl ?_
  rw [show 1 + (nI (dz (dz s)) / 64 - nI (dz (dz s)) / 64 / 3 * 3) = nI (seG α s) from by
    have := dz_lt (dz s)
    rw [show (64 : Int32) = nI 64 from rfl, show (3 : Int32) = nI 3 from rfl, nI_div (by omega) (by decide) (by decide), nI_mod (by omega) (by decide) (by decide), show (1 : Int32) = nI 1 from rfl, nI_add]
    unfold seG
    rw [if_pos hgt]]
  refine x_istore hC dX0_byTheSeed_60 (q := 62) rfl rfl ?_
  refine x_iload hC dX0_byTheSeed_62 (q := 64) rfl rfl ?_
  refine x_if_eq hC dX0_byTheSeed_64 (q := 67) rfl (tgt := 72) rfl (fun h64 => ?_) (fun h64 => ?_)
  · exact absurd h64 (by decide)
  have hx64 := h64
  refine x_iload hC dX0_byTheSeed_67 (q := 69) rfl rfl ?_
  refine x_goto hC dX0_byTheSeed_69 (tgt := 74) rfl ?_
  have hsB : dz (dz s) = seB α s := by unfold seB; rw [if_pos hgt]
  refine x_steq (st1 := [.int (nI (seB α s))]) (congrArg (fun z => [Value.int (nI z)]) hsB) ?_
  refine x_istore hC dX0_byTheSeed_74 (q := 76) rfl rfl ?_
  refine x_iconst hC dX0_byTheSeed_76 (q := 77) rfl (v := (0)) (by decide) ?_
  refine x_istore hC dX0_byTheSeed_77 (q := 79) rfl rfl ?_
  refine x_loop (S := (fun x : Nat × KS => (92 * x.1, 754 * x.1, kmix x.2 gF, ([some (.ref (kA x.2 0 0)), some (.ref aa), some (.ref ad), some (.int (nI s)), some (.int (nI (dz s))), some (.int (nI (dz (dz s)))), some (.int 1), some (.int (nI (seG α s))), some (.int (nI (seB α s))), some (.int (nI x.1))] : xL), ([] : List Value)))) (Inv := fun x => x.1 ≤ 2 ∧ (x.1 < 2 → LSt gF α d0 x.2 ∧ Bk σ x.2 ∧ kL x.2 1 0 = lI (s : Int)) ∧ (x.1 = 2 → AR gF α d0 σ x.2)) (μ := fun x => 2 - x.1) ?_ (0, kT σ f) ⟨Nat.zero_le _, fun _ => ⟨hL, Bk.refl σ, hsl⟩, fun w => absurd w (show ¬ (0 : Nat) = 2 by decide)⟩
  intro x hi ih
  obtain ⟨t, τ⟩ := x
  obtain ⟨hi, hlt, hend⟩ := hi
  dsimp only at hi hlt hend ih ⊢
  refine x_iload hC dX0_byTheSeed_79 (q := 81) rfl rfl ?_
  refine x_iconst hC dX0_byTheSeed_81 (q := 82) rfl (v := (2)) (by decide) ?_
  refine x_icmp_ge hC dX0_byTheSeed_82 (q := 85) rfl (tgt := 187) rfl (fun h82 => ?_) (fun h82 => ?_)
  · have ht2 : t = 2 := by
      have := (nI_leI (a := 2) (b := t) (by decide) (by omega)).mp h82
      omega
    refine x_iconst hC dX0_byTheSeed_187 (q := 188) rfl (v := (1)) (by decide) ?_
    exact x_zret hC hr rfl dX0_byTheSeed_188 (by (try dsimp only); omega) (by (try dsimp only); omega) ⟨τ, rfl, hend ht2, rfl⟩
  have ht2 : t < 2 := Nat.not_le.mp (fun w => h82 (nI_le (a := 2) w (by omega)))
  obtain ⟨hLt, hB, hst⟩ := hlt ht2
  have hwk2 : 0 ≤ kI τ 3 0 ∧ kI τ 3 0 ≤ 900 := by rw [hB.1.1 3 0 rfl]; exact hwk
  refine x_geq (g' := kmix (kT τ (kL τ 0)) gF) (by rw [kT_self]) ?_
  refine x_aloadr_n hC dX0_byTheSeed_85 (q := 86) rfl rfl ?_
  refine x_iconst hC dX0_byTheSeed_86 (q := 87) rfl (v := (1)) (by decide) ?_
  refine x_callV hC xv_X0_257 dX0_byTheSeed_87 (q := 90) rfl rfl (m_chance_1 h0 τ gF (kL τ 0) hok hLt hFo hwk2 hs hst) (nn := (0, 0)) rfl rfl rfl (Nat.le_of_ble_eq_true rfl) ⟨(by (try dsimp only); omega), (by (try dsimp only); omega)⟩ ⟨(by (try dsimp only); omega), (by (try dsimp only); omega)⟩ (fun v g1 hp => ?_)
  obtain ⟨ρ, rfl, hkl, hW, hg1⟩ := hp
  subst hg1
  obtain ⟨-, -, -, -, -, -, -, hAR⟩ := id hW
  rw [show kA τ 0 0 = kA ρ 0 0 from hAR.2.1.symm, show (if 0 < nI (seG α s) then (1 : Int32) else 0) = 1 from hgs]
  refine x_iload hC dX0_byTheSeed_90 (q := 92) rfl rfl ?_
  refine x_if_eq hC dX0_byTheSeed_92 (q := 95) rfl (tgt := 99) rfl (fun h92 => ?_) (fun h92 => ?_)
  · exact absurd h92 (by decide)
  have hx92 := h92
  refine x_iconst hC dX0_byTheSeed_95 (q := 96) rfl (v := (1)) (by decide) ?_
  refine x_goto hC dX0_byTheSeed_96 (tgt := 100) rfl ?_
  refine x_icmp_ne hC dX0_byTheSeed_100 (q := 103) rfl (tgt := 125) rfl (fun h100 => ?_) (fun h100 => ?_)
  · exact absurd rfl h100
  refine x_aloadr_n hC dX0_byTheSeed_103 (q := 104) rfl rfl ?_
  refine x_bipush hC dX0_byTheSeed_104 (q := 106) rfl (v := (11)) (by decide) ?_
  refine x_callV hC xv_X0_73 dX0_byTheSeed_106 (q := 109) rfl rfl (m_X2_has_11 h0 ρ gF) (nn := (0, 0)) rfl rfl rfl (Nat.le_of_ble_eq_true rfl) ⟨(by (try dsimp only); omega), (by (try dsimp only); omega)⟩ ⟨(by (try dsimp only); omega), (by (try dsimp only); omega)⟩ (fun v g1 hp => ?_)
  rw [hkl, l32n (seB_lt α s)] at hp
  obtain ⟨rfl, hg1⟩ := hp
  replace hg1 := hg1.symm
  subst hg1
  refine x_iload hC dX0_byTheSeed_109 (q := 111) rfl rfl ?_
  refine x_icmp_ne hC dX0_byTheSeed_111 (q := 114) rfl (tgt := 125) rfl (fun h111 => ?_) (fun h111 => ?_)
  · exact absurd rfl h111
  refine x_aloadr_n hC dX0_byTheSeed_114 (q := 115) rfl rfl ?_
  refine x_aloadr_n hC dX0_byTheSeed_115 (q := 116) rfl rfl ?_
  refine x_aloadr_n hC dX0_byTheSeed_116 (q := 117) rfl rfl ?_
  refine x_iload hC dX0_byTheSeed_117 (q := 119) rfl rfl ?_
  refine x_callS hC xv_X0_240 dX0_byTheSeed_119 (q := 122) rfl rfl (m_passes h0 gF (seG_lt α s) hD hA hok h140 (hAF.bk hB) hW) rfl (Nat.le_of_ble_eq_true rfl) ⟨(by (try dsimp only); omega), (by (try dsimp only); omega)⟩ ⟨(by (try dsimp only); omega), (by (try dsimp only); omega)⟩ (fun v g1 hp => ?_)
  obtain ⟨rfl, hg1⟩ := hp
  replace hg1 := hg1.symm
  subst hg1
  refine x_if_ne hC dX0_byTheSeed_122 (q := 125) rfl (tgt := 127) rfl (fun h122 => ?_) (fun h122 => ?_)
  · have hx122 := h122
    refine x_iload hC dX0_byTheSeed_127 (q := 129) rfl rfl ?_
    refine x_if_ne hC dX0_byTheSeed_129 (q := 132) rfl (tgt := 181) rfl (fun h129 => ?_) (fun h129 => ?_)
    · have ht1 : t = 1 := by
        have : ¬ t = 0 := fun e => h129 (by rw [e]; rfl)
        omega
      refine x_iinc hC dX0_byTheSeed_181 (q := 184) rfl rfl (v := nI (t + 1)) (nI_1 t) ?_
      refine x_goto hC dX0_byTheSeed_184 (tgt := 79) rfl ?_
      first
        | exact ih (t + 1, _) ⟨by (try dsimp only); omega, fun _ => hnext, fun w => absurd w (by (try dsimp only); omega)⟩ (by (try dsimp only); omega)
        | (have e2 : t + 1 = 2 := by omega
           exact x_widen (k0 := 92 * (t + 1)) (n0 := 754 * (t + 1)) (by (try dsimp only); omega) (by (try dsimp only); omega) (ih (t + 1, ρ) ⟨by (try dsimp only); omega, fun w => absurd w (by (try dsimp only); omega), fun _ => hAR.bk hB⟩ (by (try dsimp only); omega)))
        | exact x_widen (k0 := 92 * (t + 1)) (n0 := 754 * (t + 1)) (by (try dsimp only); omega) (by (try dsimp only); omega) (ih (t + 1, kLs σ2 1 0 (lI (s : Int))) ⟨by (try dsimp only); omega, fun _ => hnext, fun w => absurd w (by (try dsimp only); omega)⟩ (by (try dsimp only); omega))
    have ht0 : t = 0 := nI_eq0 (by omega) h129
    refine x_aloadr_n hC dX0_byTheSeed_132 (q := 133) rfl rfl ?_
    refine x_callV hC xv_X0_244 dX0_byTheSeed_133 (q := 136) rfl rfl (m_undo_W h0 gF hFo hLt hW) (nn := (0, 0)) rfl rfl rfl (Nat.le_of_ble_eq_true rfl) ⟨(by (try dsimp only); omega), (by (try dsimp only); omega)⟩ ⟨(by (try dsimp only); omega), (by (try dsimp only); omega)⟩ (fun v g1 hp => ?_)
    obtain ⟨σ2, rfl, hg1, hL2, hB2, hk2⟩ := hp
    subst hg1
    rw [show kA ρ 0 0 = kA σ2 0 0 from hAR.2.1.trans hB2.2.2.2.2.1.symm]
    refine x_if_eq hC dX0_byTheSeed_136 (q := 139) rfl (tgt := 179) rfl (fun h136 => ?_) (fun h136 => ?_)
    · exact absurd h136 (by decide)
    refine x_aloadr_n hC dX0_byTheSeed_139 (q := 140) rfl rfl ?_
    refine x_aloadr_n hC dX0_byTheSeed_140 (q := 141) rfl rfl ?_
    refine x_aloadr_n hC dX0_byTheSeed_141 (q := 142) rfl rfl ?_
    refine x_iconst hC dX0_byTheSeed_142 (q := 143) rfl (v := (-1)) (by decide) ?_
    refine x_iconst hC dX0_byTheSeed_143 (q := 144) rfl (v := (-1)) (by decide) ?_
    refine x_callV hC xv_X0_191 dX0_byTheSeed_144 (q := 147) rfl rfl (m_same_W h0 gF hD hA hok hAF hL2 (hB.trans hB2)) (nn := (120, 0)) (DWo hD) rfl rfl (Nat.le_of_ble_eq_true rfl) ⟨(by (try dsimp only); omega), (by (try dsimp only); omega)⟩ ⟨(by (try dsimp only); omega), (by (try dsimp only); omega)⟩ (fun v g1 hp => ?_)
    obtain ⟨rfl, hg1⟩ := hp
    replace hg1 := hg1.symm
    subst hg1
    refine x_if_eq hC dX0_byTheSeed_147 (q := 150) rfl (tgt := 179) rfl (fun h147 => ?_) (fun h147 => ?_)
    · exact absurd h147 (by decide)
    refine x_aloadr_n hC dX0_byTheSeed_150 (q := 151) rfl rfl ?_
    refine x_bipush hC dX0_byTheSeed_151 (q := 153) rfl (v := (11)) (by decide) ?_
    refine x_callV hC xv_X0_73 dX0_byTheSeed_153 (q := 156) rfl rfl (m_X2_has_11 h0 σ2 gF) (nn := (0, 0)) rfl rfl rfl (Nat.le_of_ble_eq_true rfl) ⟨(by (try dsimp only); omega), (by (try dsimp only); omega)⟩ ⟨(by (try dsimp only); omega), (by (try dsimp only); omega)⟩ (fun v g1 hp => ?_)
    rw [show kL σ2 1 0 = lI (seB α s : Nat) from by rw [hk2]; exact hkl, l32n (seB_lt α s)] at hp
    obtain ⟨rfl, hg1⟩ := hp
    replace hg1 := hg1.symm
    subst hg1
    refine x_iload hC dX0_byTheSeed_156 (q := 158) rfl rfl ?_
    refine x_icmp_ne hC dX0_byTheSeed_158 (q := 161) rfl (tgt := 179) rfl (fun h158 => ?_) (fun h158 => ?_)
    · exact absurd rfl h158
    refine x_aloadr_n hC dX0_byTheSeed_161 (q := 162) rfl rfl ?_
    refine x_iload_n hC dX0_byTheSeed_162 (q := 163) rfl rfl ?_
    refine x_callV hC xv_X0_260 dX0_byTheSeed_163 (q := 166) rfl rfl (m_X2_seed h0 σ2 gF (nI s) (nI_le (a := 0) (Nat.zero_le _) (by omega))) (nn := (0, 0)) rfl rfl rfl (Nat.le_of_ble_eq_true rfl) ⟨(by (try dsimp only); omega), (by (try dsimp only); omega)⟩ ⟨(by (try dsimp only); omega), (by (try dsimp only); omega)⟩ (fun v g1 hp => ?_)
    rw [lI_n s hs] at hp
    obtain ⟨rfl, hg1⟩ := hp
    subst hg1
    rw [show kA σ2 0 0 = kA (kLs σ2 1 0 (lI (s : Int))) 0 0 from rfl]
    have hnext : LSt gF α d0 (kLs σ2 1 0 (lI (s : Int))) ∧ Bk σ (kLs σ2 1 0 (lI (s : Int))) ∧ kL (kLs σ2 1 0 (lI (s : Int))) 1 0 = lI (s : Int) := ⟨hL2.ls hs, hB.trans hB2, rfl⟩
    refine x_if_eq hC dX0_byTheSeed_166 (q := 169) rfl (tgt := 179) rfl (fun h166 => ?_) (fun h166 => ?_)
    · exact absurd h166 (by decide)
    refine x_aloadr_n hC dX0_byTheSeed_169 (q := 170) rfl rfl ?_
    refine x_bipush hC dX0_byTheSeed_170 (q := 172) rfl (v := (11)) (by decide) ?_
    refine x_callV hC xv_X0_73 dX0_byTheSeed_172 (q := 175) rfl rfl (m_X2_has_11 h0 (kLs σ2 1 0 (lI (s : Int))) gF) (nn := (0, 0)) rfl rfl rfl (Nat.le_of_ble_eq_true rfl) ⟨(by (try dsimp only); omega), (by (try dsimp only); omega)⟩ ⟨(by (try dsimp only); omega), (by (try dsimp only); omega)⟩ (fun v g1 hp => ?_)
    rw [show kL (kLs σ2 1 0 (lI (s : Int))) 1 0 = lI (s : Int) from rfl, l32n hs] at hp
    obtain ⟨rfl, hg1⟩ := hp
    replace hg1 := hg1.symm
    subst hg1
    refine x_iload_n hC dX0_byTheSeed_175 (q := 176) rfl rfl ?_
    refine x_icmp_eq hC dX0_byTheSeed_176 (q := 179) rfl (tgt := 181) rfl (fun h176 => ?_) (fun h176 => ?_)
    · have hx176 := h176
      refine x_iinc hC dX0_byTheSeed_181 (q := 184) rfl rfl (v := nI (t + 1)) (nI_1 t) ?_
      refine x_goto hC dX0_byTheSeed_184 (tgt := 79) rfl ?_
      first
        | exact ih (t + 1, _) ⟨by (try dsimp only); omega, fun _ => hnext, fun w => absurd w (by (try dsimp only); omega)⟩ (by (try dsimp only); omega)
        | (have e2 : t + 1 = 2 := by omega
           exact x_widen (k0 := 92 * (t + 1)) (n0 := 754 * (t + 1)) (by (try dsimp only); omega) (by (try dsimp only); omega) (ih (t + 1, ρ) ⟨by (try dsimp only); omega, fun w => absurd w (by (try dsimp only); omega), fun _ => hAR.bk hB⟩ (by (try dsimp only); omega)))
        | exact x_widen (k0 := 92 * (t + 1)) (n0 := 754 * (t + 1)) (by (try dsimp only); omega) (by (try dsimp only); omega) (ih (t + 1, kLs σ2 1 0 (lI (s : Int))) ⟨by (try dsimp only); omega, fun _ => hnext, fun w => absurd w (by (try dsimp only); omega)⟩ (by (try dsimp only); omega))
    · exact absurd rfl h176
  · exact absurd h122 (by decide)

set_option maxHeartbeats 4000000 in
set_option maxRecDepth 100000 in
theorem m_byTheSeed_n {l : Launch} {s0 : State} {D : va_G} (h0 : x0 l s0 D) (σ : KS) (gF : xG) (f : aEnv) {ad aa d0 : Nat} {α : aA} {I : Nat → Int32} {V : Nat → Nat → Int32} {M : Nat → Nat → Nat → Int32} (hD : DW gF ad I V M) (hA : AH gF aa α) (hok : aOk α) (hL : LSt gF α d0 σ) (hFo : KFo s0 gF d0) (hAF : AF α σ I V M) (h140 : gF (140, 0) = none) (hwk : 0 ≤ kI σ 3 0 ∧ kI σ 3 0 ≤ 900) {s : Nat} (hs : s < 2147483648) (hsl : kL σ 1 0 = lI (s : Int)) (hgt : ¬ dz s / 64 % 100 < aI α 8) : xMet l s0 D yX0_byTheSeed cX0_byTheSeed 10 (some .boolean) (xr 46 200 1600 2100) [.ref (kA σ 0 0), .ref aa, .ref ad] (kmix (kT σ f) gF) (fun r g1 => ∃ ρ, r = some (.int 1) ∧ AR gF α d0 σ ρ ∧ g1 = kmix ρ gF) := by
  have hgs : (if 0 < nI (seG α s) then (1 : Int32) else 0) = 0 := by
    rw [show seG α s = 0 from by unfold seG; rw [if_neg hgt]]
    rfl
  have hb8 := hok.2.2.2.2.2.2.2.2.1
  refine xMet.of h0 (by decide +kernel) rfl ?_
  intro zp ze zs zm za zb zf zc hC hr hnm
  refine x_aloadr_n hC dX0_byTheSeed_0 (q := 1) rfl rfl ?_
  refine x_bipush hC dX0_byTheSeed_1 (q := 3) rfl (v := (11)) (by decide) ?_
  refine x_callV hC xv_X0_73 dX0_byTheSeed_3 (q := 6) rfl rfl (m_X2_has_11 h0 (kT σ f) gF) (nn := (0, 0)) rfl rfl rfl (Nat.le_of_ble_eq_true rfl) ⟨(by (try dsimp only); omega), (by (try dsimp only); omega)⟩ ⟨(by (try dsimp only); omega), (by (try dsimp only); omega)⟩ (fun v g1 hp => ?_)
  rw [show (kL (kT σ f) 1 0).toInt32 = nI s from by rw [show kL (kT σ f) 1 0 = kL σ 1 0 from rfl, hsl, l32n hs]] at hp
  obtain ⟨rfl, hg1⟩ := hp
  replace hg1 := hg1.symm
  subst hg1
  refine x_istore_n hC dX0_byTheSeed_6 (q := 7) rfl rfl ?_
  refine x_iload_n hC dX0_byTheSeed_7 (q := 8) rfl rfl ?_
  refine x_callS hC xv_X0_254 dX0_byTheSeed_8 (q := 11) rfl rfl (m_X0_drawn h0 _ (nI s)) rfl (Nat.le_of_ble_eq_true rfl) ⟨(by (try dsimp only); omega), (by (try dsimp only); omega)⟩ ⟨(by (try dsimp only); omega), (by (try dsimp only); omega)⟩ (fun v g1 hp => ?_)
  rw [lI_n s hs, kDraw_n hs, l32n (dz_lt s)] at hp
  obtain ⟨rfl, hg1⟩ := hp
  replace hg1 := hg1.symm
  subst hg1
  refine x_istore hC dX0_byTheSeed_11 (q := 13) rfl rfl ?_
  refine x_iload hC dX0_byTheSeed_13 (q := 15) rfl rfl ?_
  refine x_callS hC xv_X0_254 dX0_byTheSeed_15 (q := 18) rfl rfl (m_X0_drawn h0 _ (nI (dz s))) rfl (Nat.le_of_ble_eq_true rfl) ⟨(by (try dsimp only); omega), (by (try dsimp only); omega)⟩ ⟨(by (try dsimp only); omega), (by (try dsimp only); omega)⟩ (fun v g1 hp => ?_)
  rw [lI_n _ (dz_lt s), kDraw_n (dz_lt s), l32n (dz_lt _)] at hp
  obtain ⟨rfl, hg1⟩ := hp
  replace hg1 := hg1.symm
  subst hg1
  refine x_istore hC dX0_byTheSeed_18 (q := 20) rfl rfl ?_
  refine x_iload hC dX0_byTheSeed_20 (q := 22) rfl rfl ?_
  refine x_bipush hC dX0_byTheSeed_22 (q := 24) rfl (v := (64)) (by decide) ?_
  refine x_idiv hC dX0_byTheSeed_24 (q := 25) rfl (by decide) ?_
  refine x_bipush hC dX0_byTheSeed_25 (q := 27) rfl (v := (100)) (by decide) ?_
  refine x_irem hC dX0_byTheSeed_27 (q := 28) rfl (by decide) ?_
  rw [show nI (dz s) / 64 - nI (dz s) / 64 / 100 * 100 = nI (dz s / 64 % 100) from by
    have := dz_lt s
    rw [show (64 : Int32) = nI 64 from rfl, show (100 : Int32) = nI 100 from rfl, nI_div (by omega) (by decide) (by decide), nI_mod (by omega) (by decide) (by decide)]]
  refine x_aloadr_n hC dX0_byTheSeed_28 (q := 29) rfl rfl ?_
  refine x_get hC xf_X0_154_0 dX0_byTheSeed_29 (q := 32) rfl (n := (101, 0)) (AHo hA) rfl ?_
  refine x_icmp_ge hC dX0_byTheSeed_32 (q := 35) rfl (tgt := 39) rfl (fun h32 => ?_) (fun h32 => ?_)
  · have hx32 := h32
    refine x_iconst hC dX0_byTheSeed_39 (q := 40) rfl (v := (0)) (by decide) ?_
    refine x_istore hC dX0_byTheSeed_40 (q := 42) rfl rfl ?_
    refine x_iload hC dX0_byTheSeed_42 (q := 44) rfl rfl ?_
    refine x_if_eq hC dX0_byTheSeed_44 (q := 47) rfl (tgt := 59) rfl (fun h44 => ?_) (fun h44 => ?_)
    · have hx44 := h44
      refine x_iconst hC dX0_byTheSeed_59 (q := 60) rfl (v := (0)) (by decide) ?_
      have hsG : (0 : Int32) = nI (seG α s) := by unfold seG; rw [if_neg hgt]; rfl
      refine x_steq (st1 := [.int (nI (seG α s))]) (congrArg (fun z => [Value.int z]) hsG) ?_
      refine x_istore hC dX0_byTheSeed_60 (q := 62) rfl rfl ?_
      refine x_iload hC dX0_byTheSeed_62 (q := 64) rfl rfl ?_
      refine x_if_eq hC dX0_byTheSeed_64 (q := 67) rfl (tgt := 72) rfl (fun h64 => ?_) (fun h64 => ?_)
      · have hx64 := h64
        refine x_iload hC dX0_byTheSeed_72 (q := 74) rfl rfl ?_
        have hsB : dz s = seB α s := by unfold seB; rw [if_neg hgt]
        refine x_steq (st1 := [.int (nI (seB α s))]) (congrArg (fun z => [Value.int (nI z)]) hsB) ?_
        refine x_istore hC dX0_byTheSeed_74 (q := 76) rfl rfl ?_
        refine x_iconst hC dX0_byTheSeed_76 (q := 77) rfl (v := (0)) (by decide) ?_
        refine x_istore hC dX0_byTheSeed_77 (q := 79) rfl rfl ?_
        refine x_loop (S := (fun x : Nat × KS => (92 * x.1, 754 * x.1, kmix x.2 gF, ([some (.ref (kA x.2 0 0)), some (.ref aa), some (.ref ad), some (.int (nI s)), some (.int (nI (dz s))), some (.int (nI (dz (dz s)))), some (.int 0), some (.int (nI (seG α s))), some (.int (nI (seB α s))), some (.int (nI x.1))] : xL), ([] : List Value)))) (Inv := fun x => x.1 ≤ 2 ∧ (x.1 < 2 → LSt gF α d0 x.2 ∧ Bk σ x.2 ∧ kL x.2 1 0 = lI (s : Int)) ∧ (x.1 = 2 → AR gF α d0 σ x.2)) (μ := fun x => 2 - x.1) ?_ (0, kT σ f) ⟨Nat.zero_le _, fun _ => ⟨hL, Bk.refl σ, hsl⟩, fun w => absurd w (show ¬ (0 : Nat) = 2 by decide)⟩
        intro x hi ih
        obtain ⟨t, τ⟩ := x
        obtain ⟨hi, hlt, hend⟩ := hi
        dsimp only at hi hlt hend ih ⊢
        refine x_iload hC dX0_byTheSeed_79 (q := 81) rfl rfl ?_
        refine x_iconst hC dX0_byTheSeed_81 (q := 82) rfl (v := (2)) (by decide) ?_
        refine x_icmp_ge hC dX0_byTheSeed_82 (q := 85) rfl (tgt := 187) rfl (fun h82 => ?_) (fun h82 => ?_)
        · have ht2 : t = 2 := by
            have := (nI_leI (a := 2) (b := t) (by decide) (by omega)).mp h82
            omega
          refine x_iconst hC dX0_byTheSeed_187 (q := 188) rfl (v := (1)) (by decide) ?_
          exact x_zret hC hr rfl dX0_byTheSeed_188 (by (try dsimp only); omega) (by (try dsimp only); omega) ⟨τ, rfl, hend ht2, rfl⟩
        have ht2 : t < 2 := Nat.not_le.mp (fun w => h82 (nI_le (a := 2) w (by omega)))
        obtain ⟨hLt, hB, hst⟩ := hlt ht2
        have hwk2 : 0 ≤ kI τ 3 0 ∧ kI τ 3 0 ≤ 900 := by rw [hB.1.1 3 0 rfl]; exact hwk
        refine x_geq (g' := kmix (kT τ (kL τ 0)) gF) (by rw [kT_self]) ?_
        refine x_aloadr_n hC dX0_byTheSeed_85 (q := 86) rfl rfl ?_
        refine x_iconst hC dX0_byTheSeed_86 (q := 87) rfl (v := (1)) (by decide) ?_
        refine x_callV hC xv_X0_257 dX0_byTheSeed_87 (q := 90) rfl rfl (m_chance_1 h0 τ gF (kL τ 0) hok hLt hFo hwk2 hs hst) (nn := (0, 0)) rfl rfl rfl (Nat.le_of_ble_eq_true rfl) ⟨(by (try dsimp only); omega), (by (try dsimp only); omega)⟩ ⟨(by (try dsimp only); omega), (by (try dsimp only); omega)⟩ (fun v g1 hp => ?_)
        obtain ⟨ρ, rfl, hkl, hW, hg1⟩ := hp
        subst hg1
        obtain ⟨-, -, -, -, -, -, -, hAR⟩ := id hW
        rw [show kA τ 0 0 = kA ρ 0 0 from hAR.2.1.symm, show (if 0 < nI (seG α s) then (1 : Int32) else 0) = 0 from hgs]
        refine x_iload hC dX0_byTheSeed_90 (q := 92) rfl rfl ?_
        refine x_if_eq hC dX0_byTheSeed_92 (q := 95) rfl (tgt := 99) rfl (fun h92 => ?_) (fun h92 => ?_)
        · have hx92 := h92
          refine x_iconst hC dX0_byTheSeed_99 (q := 100) rfl (v := (0)) (by decide) ?_
          refine x_icmp_ne hC dX0_byTheSeed_100 (q := 103) rfl (tgt := 125) rfl (fun h100 => ?_) (fun h100 => ?_)
          · exact absurd rfl h100
          refine x_aloadr_n hC dX0_byTheSeed_103 (q := 104) rfl rfl ?_
          refine x_bipush hC dX0_byTheSeed_104 (q := 106) rfl (v := (11)) (by decide) ?_
          refine x_callV hC xv_X0_73 dX0_byTheSeed_106 (q := 109) rfl rfl (m_X2_has_11 h0 ρ gF) (nn := (0, 0)) rfl rfl rfl (Nat.le_of_ble_eq_true rfl) ⟨(by (try dsimp only); omega), (by (try dsimp only); omega)⟩ ⟨(by (try dsimp only); omega), (by (try dsimp only); omega)⟩ (fun v g1 hp => ?_)
          rw [hkl, l32n (seB_lt α s)] at hp
          obtain ⟨rfl, hg1⟩ := hp
          replace hg1 := hg1.symm
          subst hg1
          refine x_iload hC dX0_byTheSeed_109 (q := 111) rfl rfl ?_
          refine x_icmp_ne hC dX0_byTheSeed_111 (q := 114) rfl (tgt := 125) rfl (fun h111 => ?_) (fun h111 => ?_)
          · exact absurd rfl h111
          refine x_aloadr_n hC dX0_byTheSeed_114 (q := 115) rfl rfl ?_
          refine x_aloadr_n hC dX0_byTheSeed_115 (q := 116) rfl rfl ?_
          refine x_aloadr_n hC dX0_byTheSeed_116 (q := 117) rfl rfl ?_
          refine x_iload hC dX0_byTheSeed_117 (q := 119) rfl rfl ?_
          refine x_callS hC xv_X0_240 dX0_byTheSeed_119 (q := 122) rfl rfl (m_passes h0 gF (seG_lt α s) hD hA hok h140 (hAF.bk hB) hW) rfl (Nat.le_of_ble_eq_true rfl) ⟨(by (try dsimp only); omega), (by (try dsimp only); omega)⟩ ⟨(by (try dsimp only); omega), (by (try dsimp only); omega)⟩ (fun v g1 hp => ?_)
          obtain ⟨rfl, hg1⟩ := hp
          replace hg1 := hg1.symm
          subst hg1
          refine x_if_ne hC dX0_byTheSeed_122 (q := 125) rfl (tgt := 127) rfl (fun h122 => ?_) (fun h122 => ?_)
          · have hx122 := h122
            refine x_iload hC dX0_byTheSeed_127 (q := 129) rfl rfl ?_
            refine x_if_ne hC dX0_byTheSeed_129 (q := 132) rfl (tgt := 181) rfl (fun h129 => ?_) (fun h129 => ?_)
            · have ht1 : t = 1 := by
                have : ¬ t = 0 := fun e => h129 (by rw [e]; rfl)
                omega
              refine x_iinc hC dX0_byTheSeed_181 (q := 184) rfl rfl (v := nI (t + 1)) (nI_1 t) ?_
              refine x_goto hC dX0_byTheSeed_184 (tgt := 79) rfl ?_
              first
                | exact ih (t + 1, _) ⟨by (try dsimp only); omega, fun _ => hnext, fun w => absurd w (by (try dsimp only); omega)⟩ (by (try dsimp only); omega)
                | (have e2 : t + 1 = 2 := by omega
                   exact x_widen (k0 := 92 * (t + 1)) (n0 := 754 * (t + 1)) (by (try dsimp only); omega) (by (try dsimp only); omega) (ih (t + 1, ρ) ⟨by (try dsimp only); omega, fun w => absurd w (by (try dsimp only); omega), fun _ => hAR.bk hB⟩ (by (try dsimp only); omega)))
                | exact x_widen (k0 := 92 * (t + 1)) (n0 := 754 * (t + 1)) (by (try dsimp only); omega) (by (try dsimp only); omega) (ih (t + 1, kLs σ2 1 0 (lI (s : Int))) ⟨by (try dsimp only); omega, fun _ => hnext, fun w => absurd w (by (try dsimp only); omega)⟩ (by (try dsimp only); omega))
            have ht0 : t = 0 := nI_eq0 (by omega) h129
            refine x_aloadr_n hC dX0_byTheSeed_132 (q := 133) rfl rfl ?_
            refine x_callV hC xv_X0_244 dX0_byTheSeed_133 (q := 136) rfl rfl (m_undo_W h0 gF hFo hLt hW) (nn := (0, 0)) rfl rfl rfl (Nat.le_of_ble_eq_true rfl) ⟨(by (try dsimp only); omega), (by (try dsimp only); omega)⟩ ⟨(by (try dsimp only); omega), (by (try dsimp only); omega)⟩ (fun v g1 hp => ?_)
            obtain ⟨σ2, rfl, hg1, hL2, hB2, hk2⟩ := hp
            subst hg1
            rw [show kA ρ 0 0 = kA σ2 0 0 from hAR.2.1.trans hB2.2.2.2.2.1.symm]
            refine x_if_eq hC dX0_byTheSeed_136 (q := 139) rfl (tgt := 179) rfl (fun h136 => ?_) (fun h136 => ?_)
            · exact absurd h136 (by decide)
            refine x_aloadr_n hC dX0_byTheSeed_139 (q := 140) rfl rfl ?_
            refine x_aloadr_n hC dX0_byTheSeed_140 (q := 141) rfl rfl ?_
            refine x_aloadr_n hC dX0_byTheSeed_141 (q := 142) rfl rfl ?_
            refine x_iconst hC dX0_byTheSeed_142 (q := 143) rfl (v := (-1)) (by decide) ?_
            refine x_iconst hC dX0_byTheSeed_143 (q := 144) rfl (v := (-1)) (by decide) ?_
            refine x_callV hC xv_X0_191 dX0_byTheSeed_144 (q := 147) rfl rfl (m_same_W h0 gF hD hA hok hAF hL2 (hB.trans hB2)) (nn := (120, 0)) (DWo hD) rfl rfl (Nat.le_of_ble_eq_true rfl) ⟨(by (try dsimp only); omega), (by (try dsimp only); omega)⟩ ⟨(by (try dsimp only); omega), (by (try dsimp only); omega)⟩ (fun v g1 hp => ?_)
            obtain ⟨rfl, hg1⟩ := hp
            replace hg1 := hg1.symm
            subst hg1
            refine x_if_eq hC dX0_byTheSeed_147 (q := 150) rfl (tgt := 179) rfl (fun h147 => ?_) (fun h147 => ?_)
            · exact absurd h147 (by decide)
            refine x_aloadr_n hC dX0_byTheSeed_150 (q := 151) rfl rfl ?_
            refine x_bipush hC dX0_byTheSeed_151 (q := 153) rfl (v := (11)) (by decide) ?_
            refine x_callV hC xv_X0_73 dX0_byTheSeed_153 (q := 156) rfl rfl (m_X2_has_11 h0 σ2 gF) (nn := (0, 0)) rfl rfl rfl (Nat.le_of_ble_eq_true rfl) ⟨(by (try dsimp only); omega), (by (try dsimp only); omega)⟩ ⟨(by (try dsimp only); omega), (by (try dsimp only); omega)⟩ (fun v g1 hp => ?_)
            rw [show kL σ2 1 0 = lI (seB α s : Nat) from by rw [hk2]; exact hkl, l32n (seB_lt α s)] at hp
            obtain ⟨rfl, hg1⟩ := hp
            replace hg1 := hg1.symm
            subst hg1
            refine x_iload hC dX0_byTheSeed_156 (q := 158) rfl rfl ?_
            refine x_icmp_ne hC dX0_byTheSeed_158 (q := 161) rfl (tgt := 179) rfl (fun h158 => ?_) (fun h158 => ?_)
            · exact absurd rfl h158
            refine x_aloadr_n hC dX0_byTheSeed_161 (q := 162) rfl rfl ?_
            refine x_iload_n hC dX0_byTheSeed_162 (q := 163) rfl rfl ?_
            refine x_callV hC xv_X0_260 dX0_byTheSeed_163 (q := 166) rfl rfl (m_X2_seed h0 σ2 gF (nI s) (nI_le (a := 0) (Nat.zero_le _) (by omega))) (nn := (0, 0)) rfl rfl rfl (Nat.le_of_ble_eq_true rfl) ⟨(by (try dsimp only); omega), (by (try dsimp only); omega)⟩ ⟨(by (try dsimp only); omega), (by (try dsimp only); omega)⟩ (fun v g1 hp => ?_)
            rw [lI_n s hs] at hp
            obtain ⟨rfl, hg1⟩ := hp
            subst hg1
            rw [show kA σ2 0 0 = kA (kLs σ2 1 0 (lI (s : Int))) 0 0 from rfl]
            have hnext : LSt gF α d0 (kLs σ2 1 0 (lI (s : Int))) ∧ Bk σ (kLs σ2 1 0 (lI (s : Int))) ∧ kL (kLs σ2 1 0 (lI (s : Int))) 1 0 = lI (s : Int) := ⟨hL2.ls hs, hB.trans hB2, rfl⟩
            refine x_if_eq hC dX0_byTheSeed_166 (q := 169) rfl (tgt := 179) rfl (fun h166 => ?_) (fun h166 => ?_)
            · exact absurd h166 (by decide)
            refine x_aloadr_n hC dX0_byTheSeed_169 (q := 170) rfl rfl ?_
            refine x_bipush hC dX0_byTheSeed_170 (q := 172) rfl (v := (11)) (by decide) ?_
            refine x_callV hC xv_X0_73 dX0_byTheSeed_172 (q := 175) rfl rfl (m_X2_has_11 h0 (kLs σ2 1 0 (lI (s : Int))) gF) (nn := (0, 0)) rfl rfl rfl (Nat.le_of_ble_eq_true rfl) ⟨(by (try dsimp only); omega), (by (try dsimp only); omega)⟩ ⟨(by (try dsimp only); omega), (by (try dsimp only); omega)⟩ (fun v g1 hp => ?_)
            rw [show kL (kLs σ2 1 0 (lI (s : Int))) 1 0 = lI (s : Int) from rfl, l32n hs] at hp
            obtain ⟨rfl, hg1⟩ := hp
            replace hg1 := hg1.symm
            subst hg1
            refine x_iload_n hC dX0_byTheSeed_175 (q := 176) rfl rfl ?_
            refine x_icmp_eq hC dX0_byTheSeed_176 (q := 179) rfl (tgt := 181) rfl (fun h176 => ?_) (fun h176 => ?_)
            · have hx176 := h176
              refine x_iinc hC dX0_byTheSeed_181 (q := 184) rfl rfl (v := nI (t + 1)) (nI_1 t) ?_
              refine x_goto hC dX0_byTheSeed_184 (tgt := 79) rfl ?_
              first
                | exact ih (t + 1, _) ⟨by (try dsimp only); omega, fun _ => hnext, fun w => absurd w (by (try dsimp only); omega)⟩ (by (try dsimp only); omega)
                | (have e2 : t + 1 = 2 := by omega
                   exact x_widen (k0 := 92 * (t + 1)) (n0 := 754 * (t + 1)) (by (try dsimp only); omega) (by (try dsimp only); omega) (ih (t + 1, ρ) ⟨by (try dsimp only); omega, fun w => absurd w (by (try dsimp only); omega), fun _ => hAR.bk hB⟩ (by (try dsimp only); omega)))
                | exact x_widen (k0 := 92 * (t + 1)) (n0 := 754 * (t + 1)) (by (try dsimp only); omega) (by (try dsimp only); omega) (ih (t + 1, kLs σ2 1 0 (lI (s : Int))) ⟨by (try dsimp only); omega, fun _ => hnext, fun w => absurd w (by (try dsimp only); omega)⟩ (by (try dsimp only); omega))
            · exact absurd rfl h176
          · exact absurd h122 (by decide)
        · exact absurd rfl h92
      · exact absurd rfl h64
    · exact absurd rfl h44
  · exact absurd (nI_le (by omega) (by omega)) h32

theorem m_X0_byTheSeed {l : Launch} {s0 : State} {D : va_G} (h0 : x0 l s0 D) (σ : KS) (gF : xG) (f : aEnv) {ad aa d0 : Nat} {α : aA} {I : Nat → Int32} {V : Nat → Nat → Int32} {M : Nat → Nat → Nat → Int32} (hD : DW gF ad I V M) (hA : AH gF aa α) (hok : aOk α) (hL : LSt gF α d0 σ) (hFo : KFo s0 gF d0) (hAF : AF α σ I V M) (h140 : gF (140, 0) = none) (hwk : 0 ≤ kI σ 3 0 ∧ kI σ 3 0 ≤ 900) : xMet l s0 D yX0_byTheSeed cX0_byTheSeed 10 (some .boolean) (xr 46 200 1600 2100) [.ref (kA σ 0 0), .ref aa, .ref ad] (kmix (kT σ f) gF) (fun r g1 => ∃ ρ, r = some (.int 1) ∧ AR gF α d0 σ ρ ∧ g1 = kmix ρ gF) := by
  obtain ⟨s, hs, hsl⟩ := hL.2.2.2.2.2.2.2.2.2.2.2.2
  by_cases hgt : dz s / 64 % 100 < aI α 8
  · exact m_byTheSeed_g h0 σ gF f hD hA hok hL hFo hAF h140 hwk hs hsl hgt
  · exact m_byTheSeed_n h0 σ gF f hD hA hok hL hFo hAF h140 hwk hs hsl hgt
