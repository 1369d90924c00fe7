/-! a child is set -/
theorem kGo_Ix (σ : KS) (c : Nat) {f : Nat} (hf : f ≠ 33) (k : Nat) : kI (kGo σ c) f k = kI σ f k := by
  unfold kGo
  cases kO σ 0 c 0 <;> exact if_neg (fun w => hf w.1)
theorem kGo_33 (σ : KS) {c d : Nat} (hd : d ≠ c) : kI (kGo σ c) 33 d = kI σ 33 d := by
  unfold kGo
  cases kO σ 0 c 0 <;> exact if_neg (fun w => hd w.2)
theorem kGo_Ax (σ : KS) (c : Nat) : kA (kGo σ c) = kA σ := by
  unfold kGo
  cases kO σ 0 c 0 <;> rfl
theorem kGo_Vx (σ : KS) (c : Nat) : kV (kGo σ c) = kV σ := by
  unfold kGo
  cases kO σ 0 c 0 <;> rfl
theorem kGo_O0 (σ : KS) {c d : Nat} (hd : d ≠ c) : kO (kGo σ c) 0 d 0 = kO σ 0 d 0 := by
  unfold kGo
  cases kO σ 0 c 0 with
  | none => exact if_neg (fun w => hd w.2.1)
  | some q => exact if_neg (fun w => hd w.2.1)
/-- a child is set there -/
def kSet (σ : KS) (c q p : Nat) : KS := kOs (kIs (kOs (kGo σ c) 0 c 0 (some q)) 33 c p) 1 q p (some c)
theorem kSet_W {σ : KS} (h : KV σ) {c q p : Nat} (hc : c < kA σ 61 0) (hq : q < kA σ 62 0) : KW (kSet σ c q p) := by
  have hg := (kGo_V h c).1
  have e61 : kA (kGo σ c) 61 0 = kA σ 61 0 := by rw [kGo_Ax]
  have e62 : kA (kGo σ c) 62 0 = kA σ 62 0 := by rw [kGo_Ax]
  refine hg.of rfl (fun d r hd e => ?_) (fun r t d hr e => ?_)
  · by_cases w : d = c
    · have e2 : kO (kSet σ c q p) 0 d 0 = some q := if_pos ⟨rfl, w, rfl⟩
      rw [e2] at e
      cases e
      rw [e62]; exact hq
    · have e2 : kO (kSet σ c q p) 0 d 0 = kO (kGo σ c) 0 d 0 := if_neg (fun v => w v.2.1)
      rw [e2] at e
      exact hg.2.2.2.2.1 d r hd e
  · by_cases w : r = q ∧ t = p
    · have e2 : kO (kSet σ c q p) 1 r t = some c := if_pos ⟨rfl, w.1, w.2⟩
      rw [e2] at e
      cases e
      rw [e61]; exact hc
    · have e2 : kO (kSet σ c q p) 1 r t = kO (kGo σ c) 1 r t := if_neg (fun v => w v.2)
      rw [e2] at e
      exact hg.2.2.2.2.2 r t d hr e
theorem kSet_I (σ : KS) (c q p : Nat) {f : Nat} (hf : f ≠ 33) (k : Nat) : kI (kSet σ c q p) f k = kI σ f k := by
  show (if f = 33 ∧ k = c then (p : Int) else kI (kGo σ c) f k) = _
  rw [if_neg (fun w => hf w.1), kGo_Ix σ c hf k]
theorem kSet_LT {σ : KS} {α : aA} (h : LT σ α) (c q p : Nat) : LT (kSet σ c q p) α :=
  h.eq (congrFun (congrFun (kGo_Ax σ c) 61) 0) (congrFun (congrFun (kGo_Ax σ c) 62) 0) (fun d => kSet_I σ c q p (by decide) d) (fun d => kSet_I σ c q p (by decide) d) (fun d => congrFun (congrFun (kGo_Ax σ c) 25) d)
theorem kSet_DS {σ : KS} {α : aA} {I : Nat → Int32} {V : Nat → Nat → Int32} {M : Nat → Nat → Nat → Int32} (hok : aOk α) (h : DS σ α I V M (-1) (-1)) (c q p : Nat) : DS (kSet σ c q p) α I V M (nI c) (-1) := by
  have hI : ∀ f k, f ≠ 33 → kI (kSet σ c q p) f k = kI σ f k := fun f k hf => kSet_I σ c q p hf k
  have hA : ∀ f k, kA (kSet σ c q p) f k = kA σ f k := fun f k => congrFun (congrFun (kGo_Ax σ c) f) k
  refine h.eq hok (nI c) (-1) (hI _ _ (by decide)) (hI _ _ (by decide)) (hA _ _) (hA _ _) (fun k j => congrFun (congrFun (congrFun (kGo_Vx σ c) 2) k) j) (fun k => hI _ _ (by decide)) (fun d _ hne => ?_) (fun r => hA _ _) (fun r _ _ => hI _ _ (by decide))
  have hd : d ≠ c := fun w => hne (by rw [w])
  exact ⟨(show kO (kSet σ c q p) 0 d 0 = kO (kGo σ c) 0 d 0 from if_neg (fun w => hd w.2.1)).trans (kGo_O0 σ hd), (show kI (kSet σ c q p) 33 d = kI (kGo σ c) 33 d from if_neg (fun w => hd w.2)).trans (kGo_33 σ hd), hI _ _ (by decide)⟩

set_option maxHeartbeats 4000000 in
set_option maxRecDepth 100000 in
theorem m_X0_sets_t {l : Launch} {s0 : State} {D : va_G} (h0 : x0 l s0 D) (σ : KS) (gF : xG) {ad aa : Nat} {α : aA} {I : Nat → Int32} {V : Nat → Nat → Int32} {M : Nat → Nat → Nat → Int32} (hD : DW gF ad I V M) (hA : AH gF aa α) (hok : aOk α) (hv : KV σ) (hl : LT σ α) (hS : DS σ α I V M (-1) (-1)) (hI3 : I 3 = iI (kV σ 1 0 3)) {d0 : Nat} (hz : xE0 s0 gF d0) (h10 : kA σ 63 0 ≤ 10) (h48 : ∀ k, 48 ≤ k → k ≤ 52 → gF (k, 0) = none) (h54 : gF (54, 0) = none) (hAc : KAc σ d0) (hpP : KPl σ) {c q pl : Nat} (hc1 : c < aI α 0) (hq1 : q < aI α 1) (hraw : kI σ 34 c = -1) (hpl : pl < kA σ 25 q) (hpb : pl < 100) (hn : kO σ 1 q pl = none) : xMet l s0 D yX0_sets cX0_sets 7 (some .boolean) (xr 23 25 340 1300) [.ref (kA σ 0 0), .ref aa, .ref ad, .int (nI c), .int (nI q), .int (nI pl)] (kmix σ gF) (fun r g1 => r = some (.int 1) ∧ ∃ σ1, kKp σ σ1 d0 ∧ g1 = kmix (kSet σ1 c q pl) gF) := by
  obtain ⟨ra, rr, hd0, hd3, hd6, hdb, hdr, hdc, hdk, hdx, hdy⟩ := hD.km σ
  obtain ⟨ca, ga, rm, hat, hac, hag, har⟩ := hA.km σ
  have hb0 := hok.1
  have hb1 := hok.2.1
  refine xMet.of h0 (by decide +kernel) rfl ?_
  intro zp ze zs zm za zb zf zc hC hr hnm
  refine x_iload_n hC dX0_sets_0 (q := 1) rfl rfl ?_
  refine x_aloadr_n hC dX0_sets_1 (q := 2) rfl rfl ?_
  refine x_get hC xf_X0_60_0 dX0_sets_2 (q := 5) rfl (n := (101, 0)) hat rfl ?_
  refine x_icmp_ge hC dX0_sets_5 (q := 8) rfl (tgt := 54) rfl (fun h5 => ?_) (fun h5 => ?_)
  · exact absurd ((nI_leI (by omega) (by omega)).mp h5) (by omega)
  have hx5 := h5
  refine x_iload hC dX0_sets_8 (q := 10) rfl rfl ?_
  refine x_aloadr_n hC dX0_sets_10 (q := 11) rfl rfl ?_
  refine x_get hC xf_X0_54_0 dX0_sets_11 (q := 14) rfl (n := (101, 0)) hat rfl ?_
  refine x_icmp_ge hC dX0_sets_14 (q := 17) rfl (tgt := 54) rfl (fun h14 => ?_) (fun h14 => ?_)
  · exact absurd ((nI_leI (by omega) (by omega)).mp h14) (by omega)
  have hx14 := h14
  refine x_aloadr_n hC dX0_sets_17 (q := 18) rfl rfl ?_
  refine x_get hC xf_X0_163_16 dX0_sets_18 (q := 21) rfl (n := (120, 0)) hd0 rfl ?_
  refine x_iload_n hC dX0_sets_21 (q := 22) rfl rfl ?_
  refine x_zald hC dX0_sets_22 (q := 23) rfl (n := (131, 0)) hdb (j := c) rfl (by omega) (by decide) ?_
  rw [(hS.2.2.2.2.2.1 c hc1 (nI_nm1 (by omega))).2.2.2.1, if_pos (show iI (kI σ 34 c) = -1 by rw [hraw]; rfl)]
  refine x_if_eq hC dX0_sets_23 (q := 26) rfl (tgt := 54) rfl (fun h23 => ?_) (fun h23 => ?_)
  · exact absurd h23 (by decide)
  have hx23 := h23
  refine x_iload hC dX0_sets_26 (q := 28) rfl rfl ?_
  refine x_aloadr_n hC dX0_sets_28 (q := 29) rfl rfl ?_
  refine x_get hC xf_X0_167_16 dX0_sets_29 (q := 32) rfl (n := (120, 0)) hd0 rfl ?_
  refine x_iload hC dX0_sets_32 (q := 34) rfl rfl ?_
  refine x_iald hC dX0_sets_34 (q := 35) rfl (n := (121, 0)) (hd3 5 (by decide) (by decide)) (j := q) rfl (by omega) (by decide) ?_
  rw [(hS.2.2.2.2.2.2 q hq1).1]
  refine x_icmp_ge hC dX0_sets_35 (q := 38) rfl (tgt := 54) rfl (fun h35 => ?_) (fun h35 => ?_)
  · exact absurd ((nI_leI (by rw [hl.2.2.2 q hq1]; have := (hok.2.2.2.2.2.2.2.2.2.2.2 q).2; omega) (by omega)).mp h35) (by omega)
  have hx35 := h35
  refine x_aloadr_n hC dX0_sets_38 (q := 39) rfl rfl ?_
  refine x_aloadr_n hC dX0_sets_39 (q := 40) rfl rfl ?_
  refine x_iload hC dX0_sets_40 (q := 42) rfl rfl ?_
  refine x_iload hC dX0_sets_42 (q := 44) rfl rfl ?_
  refine x_callV hC xv_X0_124 dX0_sets_44 (q := 47) rfl rfl (m_X19_who h0 _ (hD.km σ) (hA.km σ) hok (nI q) (nI pl)) (nn := (120, 0)) hd0 rfl rfl (Nat.le_of_ble_eq_true rfl) ⟨(Nat.le_of_ble_eq_true rfl), (Nat.le_of_ble_eq_true rfl)⟩ ⟨(Nat.le_of_ble_eq_true rfl), (Nat.le_of_ble_eq_true rfl)⟩ (fun v g1 hp => ?_)
  rw [kWho_at hok hl hpP (fun d hd => ⟨(hS.2.2.2.2.2.1 d hd (nI_nm1 (by omega))).1, (hS.2.2.2.2.2.1 d hd (nI_nm1 (by omega))).2.1⟩) hq1 hpb _ (Nat.le_refl _), show aAt σ q pl (aI α 0) = -1 from by unfold aAt; rw [hn]] at hp
  obtain ⟨rfl, hg1⟩ := hp
  replace hg1 := hg1.symm
  subst hg1
  refine x_if_ge hC dX0_sets_47 (q := 50) rfl (tgt := 54) rfl (fun h47 => ?_) (fun h47 => ?_)
  · exact absurd h47 (by decide)
  have hx47 := h47
  refine x_iconst hC dX0_sets_50 (q := 51) rfl (v := (1)) (by decide) ?_
  refine x_goto hC dX0_sets_51 (tgt := 55) rfl ?_
  refine x_istore hC dX0_sets_55 (q := 57) rfl rfl ?_
  refine x_aloadr_n hC dX0_sets_57 (q := 58) rfl rfl ?_
  refine x_iload_n hC dX0_sets_58 (q := 59) rfl rfl ?_
  refine x_iload hC dX0_sets_59 (q := 61) rfl rfl ?_
  refine x_iload hC dX0_sets_61 (q := 63) rfl rfl ?_
  refine x_callV hC xv_X0_170 dX0_sets_63 (q := 66) rfl rfl (m_X2_set_t h0 σ gF hv hz h10 h48 h54 hAc c (by rw [hl.1]; exact hc1) q (by rw [hl.2.1]; exact hq1) pl hraw hpl hn) (nn := (0, 0)) rfl rfl rfl (Nat.le_of_ble_eq_true rfl) ⟨(by (try dsimp only); omega), (by (try dsimp only); omega)⟩ ⟨(by (try dsimp only); omega), (by (try dsimp only); omega)⟩ (fun v g1 hp => ?_)
  obtain ⟨σ2, rfl, hk, hg1⟩ := hp
  replace hg1 : g1 = kmix (kSet σ2 c q pl) gF := hg1
  have hw3 : KW (kSet σ2 c q pl) := kSet_W (hk.KV hv) (by rw [hk.A rfl 0, hl.1]; exact hc1) (by rw [hk.A rfl 0, hl.2.1]; exact hq1)
  have hl3 : LT (kSet σ2 c q pl) α := kSet_LT (hk.LT hl) c q pl
  have hS3 : DS (kSet σ2 c q pl) α I V M (nI c) (-1) := kSet_DS hok (hk.DS hok hS) c q pl
  have ho3 : kO (kSet σ2 c q pl) 0 c 0 = some q := if_pos ⟨rfl, rfl, rfl⟩
  have hi3 : kI (kSet σ2 c q pl) 33 c = pl := if_pos ⟨rfl, rfl⟩
  have hp3 : kO (kSet σ2 c q pl) 1 q pl = some c := if_pos ⟨rfl, rfl, rfl⟩
  have hv3 : kV (kSet σ2 c q pl) 1 0 3 = kV σ 1 0 3 := (congrFun (congrFun (congrFun (kGo_Vx σ2 c) 1) 0) 3).trans (hk.V rfl 0 3)
  have hA3 : kA (kSet σ2 c q pl) 0 0 = kA σ 0 0 := (congrFun (congrFun (kGo_Ax σ2 c) 0) 0).trans (hk.A rfl 0)
  have hr3 : pl < kA (kSet σ2 c q pl) 25 q := by rw [show kA (kSet σ2 c q pl) 25 q = kA σ2 25 q from congrFun (congrFun (kGo_Ax σ2 c) 25) q, hk.A rfl q]; exact hpl
  have hkl3 : kKil (kSet σ2 c q pl) c = nI q := by unfold kKil; rw [ho3]
  have hpl3 : kPl (kSet σ2 c q pl) q pl = nI c := by unfold kPl; rw [if_pos hr3, hp3]
  obtain ⟨σ3, h3⟩ : ∃ x, x = kSet σ2 c q pl := ⟨_, rfl⟩
  rw [← h3] at hg1 hw3 hl3 hS3 hi3 hv3 hA3 hkl3 hpl3
  subst hg1
  rw [← hA3]
  refine x_iload hC dX0_sets_66 (q := 68) rfl rfl ?_
  refine x_icmp_ne hC dX0_sets_68 (q := 71) rfl (tgt := 127) rfl (fun h68 => ?_) (fun h68 => ?_)
  · exact absurd rfl h68
  refine x_iload hC dX0_sets_71 (q := 73) rfl rfl ?_
  refine x_if_eq hC dX0_sets_73 (q := 76) rfl (tgt := 110) rfl (fun h73 => ?_) (fun h73 => ?_)
  · exact absurd h73 (by decide)
  refine x_aloadr_n hC dX0_sets_76 (q := 77) rfl rfl ?_
  refine x_iload_n hC dX0_sets_77 (q := 78) rfl rfl ?_
  refine x_iconst hC dX0_sets_78 (q := 79) rfl (v := (2)) (by decide) ?_
  refine x_callV hC xv_X0_63 dX0_sets_79 (q := 82) rfl rfl (m_X2_child_2 h0 σ3 gF hw3 c (by rw [hl3.1]; exact hc1)) (nn := (0, 0)) rfl rfl rfl (Nat.le_of_ble_eq_true rfl) ⟨(by (try dsimp only); omega), (by (try dsimp only); omega)⟩ ⟨(by (try dsimp only); omega), (by (try dsimp only); omega)⟩ (fun v g1 hp => ?_)
  rw [hkl3] at hp
  obtain ⟨rfl, hg1⟩ := hp
  replace hg1 := hg1.symm
  subst hg1
  refine x_iload hC dX0_sets_82 (q := 84) rfl rfl ?_
  refine x_icmp_ne hC dX0_sets_84 (q := 87) rfl (tgt := 127) rfl (fun h84 => ?_) (fun h84 => ?_)
  · exact absurd rfl h84
  refine x_aloadr_n hC dX0_sets_87 (q := 88) rfl rfl ?_
  refine x_iload_n hC dX0_sets_88 (q := 89) rfl rfl ?_
  refine x_iconst hC dX0_sets_89 (q := 90) rfl (v := (3)) (by decide) ?_
  refine x_callV hC xv_X0_63 dX0_sets_90 (q := 93) rfl rfl (m_X2_child_3 h0 σ3 gF hw3 c (by rw [hl3.1]; exact hc1)) (nn := (0, 0)) rfl rfl rfl (Nat.le_of_ble_eq_true rfl) ⟨(by (try dsimp only); omega), (by (try dsimp only); omega)⟩ ⟨(by (try dsimp only); omega), (by (try dsimp only); omega)⟩ (fun v g1 hp => ?_)
  rw [hi3, iI_nat] at hp
  obtain ⟨rfl, hg1⟩ := hp
  replace hg1 := hg1.symm
  subst hg1
  refine x_iload hC dX0_sets_93 (q := 95) rfl rfl ?_
  refine x_icmp_ne hC dX0_sets_95 (q := 98) rfl (tgt := 127) rfl (fun h95 => ?_) (fun h95 => ?_)
  · exact absurd rfl h95
  refine x_aloadr_n hC dX0_sets_98 (q := 99) rfl rfl ?_
  refine x_iload hC dX0_sets_99 (q := 101) rfl rfl ?_
  refine x_iload hC dX0_sets_101 (q := 103) rfl rfl ?_
  refine x_callV hC xv_X0_66 dX0_sets_103 (q := 106) rfl rfl (m_X2_place h0 σ3 gF hw3 q (by rw [hl3.2.1]; exact hq1) pl (by omega)) (nn := (0, 0)) rfl rfl rfl (Nat.le_of_ble_eq_true rfl) ⟨(by (try dsimp only); omega), (by (try dsimp only); omega)⟩ ⟨(by (try dsimp only); omega), (by (try dsimp only); omega)⟩ (fun v g1 hp => ?_)
  rw [hpl3] at hp
  obtain ⟨rfl, hg1⟩ := hp
  replace hg1 := hg1.symm
  subst hg1
  refine x_iload_n hC dX0_sets_106 (q := 107) rfl rfl ?_
  refine x_icmp_ne hC dX0_sets_107 (q := 110) rfl (tgt := 127) rfl (fun h107 => ?_) (fun h107 => ?_)
  · exact absurd rfl h107
  refine x_aloadr_n hC dX0_sets_110 (q := 111) rfl rfl ?_
  refine x_aloadr_n hC dX0_sets_111 (q := 112) rfl rfl ?_
  refine x_aloadr_n hC dX0_sets_112 (q := 113) rfl rfl ?_
  refine x_iload hC dX0_sets_113 (q := 115) rfl rfl ?_
  refine x_iload_n hC dX0_sets_115 (q := 116) rfl rfl ?_
  refine x_iconst hC dX0_sets_116 (q := 117) rfl (v := (-1)) (by decide) ?_
  refine x_callS hC xv_X0_174 dX0_sets_117 (q := 120) rfl rfl (m_X0_isBehind_t h0 _ gF hD hA hok hw3 hl3 hS3 (by rw [hI3, hv3]; exact (Int32.add_zero _).symm)) rfl (Nat.le_of_ble_eq_true rfl) ⟨(by (try dsimp only); omega), (by (try dsimp only); omega)⟩ ⟨(by (try dsimp only); omega), (by (try dsimp only); omega)⟩ (fun v g1 hp => ?_)
  obtain ⟨rfl, hg1⟩ := hp
  replace hg1 := hg1.symm
  subst hg1
  refine x_if_eq hC dX0_sets_120 (q := 123) rfl (tgt := 127) rfl (fun h120 => ?_) (fun h120 => ?_)
  · exact absurd h120 (by decide)
  refine x_iconst hC dX0_sets_123 (q := 124) rfl (v := (1)) (by decide) ?_
  refine x_goto hC dX0_sets_124 (tgt := 128) rfl ?_
  exact x_zret hC hr rfl dX0_sets_128 (by (try dsimp only); omega) (by (try dsimp only); omega) ⟨rfl, σ2, hk, by rw [h3]⟩
