/-! isImage -/
theorem kBy6_E {σ τ : KS} (h : kEy τ σ) (c : Nat) : ∀ r, kBy6 τ c r = kBy6 σ c r
  | 0 => by show (if iI (kI τ 34 c) = -1 then 0 else 1) = (if iI (kI σ 34 c) = -1 then 0 else 1); rw [h.1 34 c rfl]
  | 1 => by show (match kO τ 0 c 0 with | none => 255 | some q => q) = (match kO σ 0 c 0 with | none => 255 | some q => q); rw [h.2.1]
  | 2 => by show k255 (kI τ 33 c) = k255 (kI σ 33 c); rw [h.1 33 c rfl]
  | 3 => by show k255 (kI τ 34 c) = k255 (kI σ 34 c); rw [h.1 34 c rfl]
  | 4 => by show (if iI (kI τ 36 c) = 0 then 0 else 1) = (if iI (kI σ 36 c) = 0 then 0 else 1); rw [h.1 36 c rfl]
  | r + 5 => by show (kI τ 35 c).toNat = (kI σ 35 c).toNat; rw [h.1 35 c rfl]
theorem kIml_E {σ τ : KS} (h : kEy τ σ) : kIml τ = kIml σ := by unfold kIml; rw [h.2.2.2.1, h.2.2.2.2]
theorem kByt_E {σ τ : KS} (h : kEy τ σ) : kByt τ = kByt σ := by
  funext j
  unfold kByt
  rw [h.2.2.2.1, h.1 3 0 rfl, h.1 7 0 rfl, h.1 41 _ rfl, kBy6_E h]
theorem kIb_E {σ τ : KS} (h : kEy τ σ) : kIb τ = kIb σ := by
  funext j
  unfold kIb
  rw [kByt_E h, kIml_E h]
def kOn2 (σ : KS) (a b : Int) : KS := kAs (kIs (kAs (kIs (kIs σ 0 0 0) 16 0 a) 63 0 0) 18 0 b) 65 0 0
theorem on_E (σ : KS) (a b : Int) : kEy (kOn2 σ a b) σ := ⟨fun f k hf => by
  have f0 : f ≠ 0 := fun e => by subst e; cases hf
  have f16 : f ≠ 16 := fun e => by subst e; cases hf
  have f18 : f ≠ 18 := fun e => by subst e; cases hf
  show (if f = 18 ∧ k = 0 then b else if f = 16 ∧ k = 0 then a else if f = 0 ∧ k = 0 then 0 else kI σ f k) = kI σ f k
  rw [if_neg (fun w => f18 w.1), if_neg (fun w => f16 w.1), if_neg (fun w => f0 w.1)], rfl, rfl, rfl, rfl⟩
theorem on_W {σ : KS} (h : KW σ) (a b : Int) : KW (kOn2 σ a b) := by
  refine ⟨h.1, h.2.1, fun s s1 s2 => ?_, h.2.2.2.1, h.2.2.2.2.1, h.2.2.2.2.2⟩
  have hs := h.2.2.1 s s1 s2
  show (if s = 65 ∧ 0 = 0 then 0 else if s = 63 ∧ 0 = 0 then 0 else kA σ s 0) ≤ (if s + 10 = 65 ∧ 0 = 0 then 0 else if s + 10 = 63 ∧ 0 = 0 then 0 else kA σ (s + 10) 0) ∧ (if s + 10 = 65 ∧ 0 = 0 then 0 else if s + 10 = 63 ∧ 0 = 0 then 0 else kA σ (s + 10) 0) < 1048576
  rw [if_neg (show ¬ (s + 10 = 65 ∧ 0 = 0) by omega), if_neg (show ¬ (s + 10 = 63 ∧ 0 = 0) by omega)]
  refine ⟨?_, hs.2⟩
  split
  · exact Nat.zero_le _
  · split
    · exact Nat.zero_le _
    · exact hs.1
theorem kEy.KPl {σ τ : KS} (h : kEy τ σ) (hp : KPl σ) : KPl τ := by
  refine ⟨fun q p c => ?_, fun c q hc hq => ?_, fun c hc hq => ?_⟩
  · rw [h.2.1, h.2.2.2.1, h.1 33 c rfl]; exact hp.1 q p c
  · rw [h.2.2.2.2, h.2.2.1, h.1 33 c rfl]
    rw [h.2.1] at hq
    exact hp.2.1 c q (by rw [← h.2.2.2.1]; exact hc) hq
  · rw [h.1 33 c rfl]
    rw [h.2.1] at hq
    exact hp.2.2 c (by rw [← h.2.2.2.1]; exact hc) hq
theorem kEy.KNb {σ τ : KS} (h : kEy τ σ) (hn : KNb σ) : KNb τ := by
  refine ⟨fun c hc => ?_, fun q hq => ?_⟩
  · rw [h.1 34 c rfl, h.1 35 c rfl, h.1 36 c rfl]; exact hn.1 c (by rw [← h.2.2.2.1]; exact hc)
  · rw [h.1 41 q rfl]; exact hn.2 q (by rw [← h.2.2.2.2]; exact hq)
theorem kEy.LT {σ τ : KS} {α : aA} (h : kEy τ σ) (hl : LT σ α) : LT τ α := hl.eq h.2.2.2.1 h.2.2.2.2 (fun c => h.1 31 c rfl) (fun c => h.1 32 c rfl) (fun q => by rw [h.2.2.1])
theorem kEy.sk {σ τ : KS} (h : kEy τ σ) (hs : KSk σ) : KSk τ := by
  intro c hc
  rw [h.2.2.2.1] at hc ⊢
  have := hs c hc
  rw [h.1 34 c rfl, h.1 35 c rfl, h.1 36 c rfl, h.2.1]
  refine ⟨this.1, this.2.1, this.2.2.1, fun d hd => ?_⟩
  rw [h.1 34 d rfl, h.1 35 d rfl]
  exact this.2.2.2 d hd
theorem mask_0 {x y : Int32} (h : ∀ i, i < 32 → bt x i = true → bt y i = true) : x &&& (y ^^^ (-1)) = 0 := b_ext (fun i hi => by
  rw [b_and, b_xor, b_m1 i hi, b_0]
  cases hx : bt x i with
  | false => rfl
  | true => rw [h i hi hx]; rfl)
theorem i35 {z : Int} (h : 0 ≤ z ∧ z < 256) : nI z.toNat = iI z := by
  rw [← iI_nat]
  congr 1
  omega
theorem i255 {z : Int} (h : -1 ≤ z ∧ z < 1000) : (z < 0 → nI (k255 z) = 255) ∧ (¬ z < 0 → nI (k255 z) = iI z) := by
  unfold k255
  refine ⟨fun w => ?_, fun w => ?_⟩
  · rw [if_pos (show z = -1 by omega)]; rfl
  · rw [if_neg (show ¬ z = -1 by omega), ← iI_nat]
    congr 1
    omega
theorem w256 {w : Int} (h : 0 ≤ w ∧ w ≤ 9999) {a b : Nat} (ha : a = w.toNat / 256) (hb : b = w.toNat % 256) : 256 * nI a + nI b = iI w := by
  rw [show (256 : Int32) = nI 256 from rfl, nI_mu, nI_add, ← iI_nat]
  congr 1
  omega

set_option maxHeartbeats 4000000 in
set_option maxRecDepth 100000 in
theorem m_X0_isImage {l : Launch} {s0 : State} {D : va_G} (h0 : x0 l s0 D) (σ : KS) (gB : xG) {aa d0 : Nat} {α : aA} (hB : ∀ n : xN, 120 ≤ n.1 → n.1 ≤ 141 → gB n = none) (hL0 : gB (2000, 0) = none) (h109B : gB (109, 0) = none) (h110B : gB (110, 0) = none) (hA : AH gB aa α) (hok : aOk α) (hL : LI gB α d0 σ) (hFo : KFo s0 gB d0) (hwk : 0 ≤ kI σ 3 0 ∧ kI σ 3 0 ≤ 890)  : xMet l s0 D yX0_isImage cX0_isImage 9 (some .boolean) (xr 58 9200 55000 3500) [.ref (kA σ 0 0), .ref aa] (kmix σ gB) (fun r _ => r = some (.int 1)) := by
  have hb0 := hok.1
  have hb1 := hok.2.1
  refine xMet.of h0 (by decide +kernel) rfl ?_
  intro zp ze zs zm za zb zf zc hC hr hnm
  refine x_geq (g' := kmix (kT σ (kL σ 0)) gB) (by rw [kT_self]) ?_
  refine x_new hC (fs := [.int 0, .int 0, .int 0, .int 0, .int 0, .null, .null, .null, .null, .null, .null, .null, .null, .null, .null, .null, .null, .null, .null]) (120, 0) xc_16 q1596 q1597 q113 dX0_isImage_0 (q := 3) rfl rfl ((kmix_F _ _ _ rfl).trans (hB (120, 0) (by decide) (by decide))) (fun j hj => by match j, hj with | 0, _ => rfl | 1, _ => rfl | 2, _ => rfl | 3, _ => rfl | 4, _ => rfl | 5, _ => rfl | 6, _ => rfl | 7, _ => rfl | 8, _ => rfl | 9, _ => rfl | 10, _ => rfl | 11, _ => rfl | 12, _ => rfl | 13, _ => rfl | 14, _ => rfl | 15, _ => rfl | 16, _ => rfl | 17, _ => rfl | 18, _ => rfl | j + 19, h => exact absurd h (by omega)) (Nat.le_of_ble_eq_true rfl) (Nat.le_of_ble_eq_true rfl) (fun a_0 => ?_)
  refine x_geq (g' := kmix (kT σ (kL σ 0)) (xu gB (120, 0) (some (a_0, xO 16 [.int 0, .int 0, .int 0, .int 0, .int 0, .null, .null, .null, .null, .null, .null, .null, .null, .null, .null, .null, .null, .null, .null])))) (kmix_xuF _ _ _ _ rfl) ?_
  refine x_dup hC dX0_isImage_3 (q := 4) rfl rfl ?_
  refine x_aloadr_n hC dX0_isImage_4 (q := 5) rfl rfl ?_
  refine x_aloadr_n hC dX0_isImage_5 (q := 6) rfl rfl ?_
  refine x_callI hC xv_X0_267 dX0_isImage_6 (q := 9) rfl rfl (m_X19_init h0 σ (xu gB (120, 0) (some (a_0, xO 16 [.int 0, .int 0, .int 0, .int 0, .int 0, .null, .null, .null, .null, .null, .null, .null, .null, .null, .null, .null, .null, .null, .null]))) gB (kL σ 0) (DN_0 hB) (fun n a b => hB n a (by omega)) hL0 hA hok hL.1 hFo hL.2.1 ⟨hwk.1, by omega⟩) rfl (Nat.le_of_ble_eq_true rfl) ⟨(by (try dsimp only); omega), (by (try dsimp only); omega)⟩ ⟨(by (try dsimp only); omega), (by (try dsimp only); omega)⟩ (fun v g1 hp => ?_)
  obtain ⟨f1, y1, gF, I, V, M, rfl, hg1, ⟨ra, rr, hQ⟩, hI, hAI⟩ := hp
  subst hg1
  have hD : DW gF a_0 I V M := hQ.dw
  have hA1 : AH gF aa α := hQ.ah hA
  have hFo1 : KFo s0 gF d0 := hQ.fo hFo
  have h109 : gF (109, 0) = none := (hQ.out _ (Or.inl (by decide))).trans h109B
  have h110 : gF (110, 0) = none := (hQ.out _ (Or.inl (by decide))).trans h110B
  obtain ⟨τ, hτ⟩ : ∃ τ, τ = kT (kIs σ 5 0 y1) f1 := ⟨_, rfl⟩
  rw [← hτ]
  have hBt : Bk σ τ := by rw [hτ]; exact Bk.i5 σ y1 f1
  have hLt : LI gF α d0 τ := by
    rw [hτ]
    exact ⟨(hQ.st (fun n a b => hB n a (by omega)) hL.1).i5 y1, hL.2⟩
  have hAt : AF α τ I V M := (show AF α σ I V M from ⟨hI, hAI⟩).bk hBt
  rw [show kA σ 0 0 = kA τ 0 0 from hBt.2.2.2.2.1.symm]
  have hwt : 0 ≤ kI τ 3 0 ∧ kI τ 3 0 ≤ 900 := by rw [hBt.1.1 3 0 rfl]; exact ⟨hwk.1, by omega⟩
  obtain ⟨⟨hF, hv, hpP, hN, -⟩, hl, hM, hRw, h7, hck, ht0⟩ := id hLt
  have hw := hv.1
  have hib := kIb_256 hLt ⟨hwt.1, by omega⟩
  have hsk := hLt.sk
  have hml : kIml τ + 1 = 5 + 6 * aI α 0 + aI α 1 := by unfold kIml; rw [hl.1, hl.2.1]; omega
  clear hτ hQ hI hAI
  have hd0' := hD
  obtain ⟨ra2, rr2, hd0', hd3', hd6', hdb', -, -, -, -, -⟩ := hd0'
  obtain ⟨ca, ga, rm, hat', -, -, -⟩ := id hA1
  have hDx : ∀ x, DW (xu gF (109, 0) x) a_0 I V M := fun x => hD.ext (fun n h1 h2 => xu_ne (fun w => by rw [w] at h1; dsimp only at h1; omega))
  have hAx : ∀ x, AH (xu gF (109, 0) x) aa α := fun x => hA1.ext (fun n h1 h2 => xu_ne (fun w => by rw [w] at h2; dsimp only at h2; omega))
  have hd0 : ∀ (τ : KS) x, kmix τ (xu gF (109, 0) x) (120, 0) = _ := fun τ x => (kmix_F _ _ _ rfl).trans ((xu_ne (n_fst rfl)).trans hd0')
  have hd3 : ∀ (τ : KS) x k, 5 ≤ k → k < 10 → kmix τ (xu gF (109, 0) x) (116 + k, 0) = some (ra2 k, xAi .int 3 (V k)) := fun τ x k a b => (kmix_F _ _ _ (bf40 (by dsimp only; omega))).trans ((xu_ne (fun w => by injection w with w1 w2; omega)).trans (hd3' k a b))
  have hd6 : ∀ (τ : KS) x k, 10 ≤ k → k < 15 → kmix τ (xu gF (109, 0) x) (116 + k, 0) = some (ra2 k, xAi .int 6 (V k)) := fun τ x k a b => (kmix_F _ _ _ (bf40 (by dsimp only; omega))).trans ((xu_ne (fun w => by injection w with w1 w2; omega)).trans (hd6' k a b))
  have hdb : ∀ (τ : KS) x, kmix τ (xu gF (109, 0) x) (131, 0) = _ := fun τ x => (kmix_F _ _ _ rfl).trans ((xu_ne (n_fst rfl)).trans hdb')
  have hat : ∀ (τ : KS) x, kmix τ (xu gF (109, 0) x) (101, 0) = _ := fun τ x => (kmix_F _ _ _ rfl).trans ((xu_ne (n_fst rfl)).trans hat')
  refine x_astorer_n hC dX0_isImage_9 (q := 10) rfl rfl ?_
  refine x_aloadr_n hC dX0_isImage_10 (q := 11) rfl rfl ?_
  refine x_callV hC xv_X0_314 dX0_isImage_11 (q := 14) rfl rfl (m_X2_image h0 τ gF hw hpP hN ⟨hwt.1, by omega⟩ h7) (nn := (0, 0)) rfl rfl rfl (Nat.le_of_ble_eq_true rfl) ⟨(by (try dsimp only); omega), (by (try dsimp only); omega)⟩ ⟨(by (try dsimp only); omega), (by (try dsimp only); omega)⟩ (fun v g1 hp => ?_)
  obtain ⟨rfl, hg1⟩ := hp
  subst hg1
  rw [hml]
  obtain ⟨τ1, h1⟩ : ∃ x, x = kIm τ (kFil (kIb τ) (kV τ 4 0) (5 + 6 * aI α 0 + aI α 1)) (5 + 6 * aI α 0 + aI α 1) := ⟨_, rfl⟩
  rw [← h1]
  have e6 : kI τ1 6 0 = ((5 + 6 * aI α 0 + aI α 1 : Nat) : Int) := by rw [h1]; rfl
  have e4 : ∀ k, k < 5 + 6 * aI α 0 + aI α 1 → kV τ1 4 0 k = (kIb τ k : Int) := fun k hk => by rw [h1]; exact if_pos hk
  have hE1 : kEy τ1 τ := by
    rw [h1]
    refine ⟨fun f k hf => ?_, rfl, rfl, rfl, rfl⟩
    have f6 : f ≠ 6 := fun e => by subst e; cases hf
    exact if_neg (fun w => f6 w.1)
  have hw1 : KW τ1 := by rw [h1]; exact hw
  have hv1 : KV τ1 := by rw [h1]; exact hv
  have ht1 : kI τ1 0 0 = 0 := by rw [h1]; exact ht0
  rw [show kA τ 0 0 = kA τ1 0 0 from by rw [h1]; rfl]
  clear h1
  refine x_istore_n hC dX0_isImage_14 (q := 15) rfl rfl ?_
  refine x_iload_n hC dX0_isImage_15 (q := 16) rfl rfl ?_
  refine x_iconst hC dX0_isImage_16 (q := 17) rfl (v := (5)) (by decide) ?_
  refine x_bipush hC dX0_isImage_17 (q := 19) rfl (v := (6)) (by decide) ?_
  refine x_aloadr_n hC dX0_isImage_19 (q := 20) rfl rfl ?_
  refine x_get hC xf_X0_60_0 dX0_isImage_20 (q := 23) rfl (n := (101, 0)) ((kmix_F _ _ _ rfl).trans hat') rfl ?_
  refine x_imul hC dX0_isImage_23 (q := 24) rfl ?_
  refine x_iadd hC dX0_isImage_24 (q := 25) rfl ?_
  refine x_aloadr_n hC dX0_isImage_25 (q := 26) rfl rfl ?_
  refine x_get hC xf_X0_54_0 dX0_isImage_26 (q := 29) rfl (n := (101, 0)) ((kmix_F _ _ _ rfl).trans hat') rfl ?_
  refine x_iadd hC dX0_isImage_29 (q := 30) rfl ?_
  rw [show (5 : Int32) + 6 * nI (aI α 0) + nI (aI α 1) = nI (5 + 6 * aI α 0 + aI α 1) from by rw [show (5 : Int32) = nI 5 from rfl, show (6 : Int32) = nI 6 from rfl, nI_mu, nI_add, nI_add]]
  refine x_icmp_ne hC dX0_isImage_30 (q := 33) rfl (tgt := 42) rfl (fun h30 => ?_) (fun h30 => ?_)
  · exact absurd rfl h30
  refine x_aloadr_n hC dX0_isImage_33 (q := 34) rfl rfl ?_
  refine x_iload_n hC dX0_isImage_34 (q := 35) rfl rfl ?_
  refine x_callV hC xv_X0_317 dX0_isImage_35 (q := 38) rfl rfl (m_X2_octet_out h0 τ1 gF (n := 5 + 6 * aI α 0 + aI α 1) (k := 5 + 6 * aI α 0 + aI α 1) e6 (by omega) (Nat.le_refl _) (by omega)) (nn := (0, 0)) rfl rfl rfl (Nat.le_of_ble_eq_true rfl) ⟨(by (try dsimp only); omega), (by (try dsimp only); omega)⟩ ⟨(by (try dsimp only); omega), (by (try dsimp only); omega)⟩ (fun v g1 hp => ?_)
  obtain ⟨rfl, hg1⟩ := hp
  replace hg1 := hg1.symm
  subst hg1
  refine x_iconst hC dX0_isImage_38 (q := 39) rfl (v := (-1)) (by decide) ?_
  refine x_icmp_eq hC dX0_isImage_39 (q := 42) rfl (tgt := 44) rfl (fun h39 => ?_) (fun h39 => ?_)
  · have hx39 := h39
    refine x_iload_n hC dX0_isImage_44 (q := 45) rfl rfl ?_
    refine x_newa hC (at0 := .int) (N := (5 + 6 * aI α 0 + aI α 1)) (x := ((5 + 6 * aI α 0 + aI α 1), .inl (fun _ => 0))) (109, 0) q159 dX0_isImage_45 (q := 47) rfl rfl ((kmix_F _ _ _ rfl).trans h109) rfl (by omega) (fun _ => rfl) (by (try dsimp only); omega) (by (try dsimp only); omega) (fun a_45 => ?_)
    refine x_geq (g' := kmix τ1 (xu gF (109, 0) (some (a_45, xAi .int (5 + 6 * aI α 0 + aI α 1) (fun _ => 0))))) (kmix_xuF _ _ _ _ rfl) ?_
    refine x_astorer hC dX0_isImage_47 (q := 49) rfl rfl ?_
    refine x_sipush hC dX0_isImage_49 (q := 52) rfl (v := (241)) (by decide) ?_
    refine x_istore hC dX0_isImage_52 (q := 54) rfl rfl ?_
    refine x_iconst hC dX0_isImage_54 (q := 55) rfl (v := (0)) (by decide) ?_
    refine x_istore hC dX0_isImage_55 (q := 57) rfl rfl ?_
    refine x_widen (k0 := 9000) (n0 := 54000) (by (try dsimp only); omega) (by (try dsimp only); omega) ?_
    refine x_loop (S := (fun x : Nat × (Nat → Int32) × Nat => ((9000 : Nat), (54000 : Nat), kmix τ1 (xu gF (109, 0) (some (a_45, xAi .int (5 + 6 * aI α 0 + aI α 1) x.2.1))), ([some (.ref (kA τ1 0 0)), some (.ref aa), some (.ref a_0), some (.int (nI (5 + 6 * aI α 0 + aI α 1))), some (.ref a_45), some (.int (nI x.2.2)), some (.int (nI x.1)), none, none] : xL), ([] : List Value)))) (Inv := fun x => x.1 ≤ (5 + 6 * aI α 0 + aI α 1) ∧ (∀ j, j < x.1 → x.2.1 j = nI (kIb τ j)) ∧ x.2.2 = kLst (kByt τ) (min x.1 (kIml τ))) (μ := fun x => (5 + 6 * aI α 0 + aI α 1) - x.1) ?_ (0, fun _ => 0, 241) ⟨Nat.zero_le _, fun j hj => absurd hj (Nat.not_lt_zero j), by show 241 = kLst (kByt τ) (min 0 (kIml τ)); rw [Nat.zero_min]; rfl⟩
    intro x hi ih
    obtain ⟨k, fl, ck⟩ := x
    obtain ⟨hi, hfl, hckk⟩ := hi
    dsimp only at hi hfl hckk ih ⊢
    refine x_iload hC dX0_isImage_57 (q := 59) rfl rfl ?_
    refine x_iload_n hC dX0_isImage_59 (q := 60) rfl rfl ?_
    refine x_icmp_ge hC dX0_isImage_60 (q := 63) rfl (tgt := 104) rfl (fun h60 => ?_) (fun h60 => ?_)
    · have hk1 : k = (5 + 6 * aI α 0 + aI α 1) := by
        have := (nI_leI (a := (5 + 6 * aI α 0 + aI α 1)) (b := k) (by omega) (by omega)).mp h60
        omega
      subst hk1
      have hckE : ck = (kLst (kByt τ) (kIml τ)) := by rw [hckk, show min (5 + 6 * aI α 0 + aI α 1) (kIml τ) = kIml τ by omega]
      subst hckE
      refine x_aloadr hC dX0_isImage_104 (q := 106) rfl rfl ?_
      refine x_iload_n hC dX0_isImage_106 (q := 107) rfl rfl ?_
      refine x_iconst hC dX0_isImage_107 (q := 108) rfl (v := (1)) (by decide) ?_
      refine x_isub hC dX0_isImage_108 (q := 109) rfl ?_
      rw [show nI (5 + 6 * aI α 0 + aI α 1) - 1 = nI (kIml τ) from by rw [← hml, ← nI_1, Int32.add_sub_cancel]]
      refine x_iald hC dX0_isImage_109 (q := 110) rfl (n := (109, 0)) ((kmix_F _ _ _ rfl).trans (xu_eq _ _ _)) (j := kIml τ) rfl (by omega) (by omega) ?_
      rw [hfl (kIml τ) (by omega), show kIb τ (kIml τ) = (kLst (kByt τ) (kIml τ)) from if_neg (Nat.lt_irrefl _)]
      refine x_iload hC dX0_isImage_110 (q := 112) rfl rfl ?_
      refine x_icmp_ne hC dX0_isImage_112 (q := 115) rfl (tgt := 155) rfl (fun h112 => ?_) (fun h112 => ?_)
      · exact absurd rfl h112
      have kb0 : kIb τ 0 = (kI τ 3 0).toNat / 256 := by unfold kIb; rw [if_pos (by omega)]; unfold kByt; rw [if_pos (by omega)]; rfl
      have kb1 : kIb τ 1 = (kI τ 3 0).toNat % 256 := by unfold kIb; rw [if_pos (by omega)]; unfold kByt; rw [if_pos (by omega)]; rfl
      have kb2 : kIb τ 2 = (kI τ 7 0).toNat / 256 := by unfold kIb; rw [if_pos (by omega)]; unfold kByt; rw [if_pos (by omega)]; rfl
      have kb3 : kIb τ 3 = (kI τ 7 0).toNat % 256 := by unfold kIb; rw [if_pos (by omega)]; unfold kByt; rw [if_pos (by omega)]; rfl
      refine x_sipush hC dX0_isImage_115 (q := 118) rfl (v := (256)) (by decide) ?_
      refine x_aloadr hC dX0_isImage_118 (q := 120) rfl rfl ?_
      refine x_iconst hC dX0_isImage_120 (q := 121) rfl (v := (0)) (by decide) ?_
      refine x_iald hC dX0_isImage_121 (q := 122) rfl (n := (109, 0)) ((kmix_F _ _ _ rfl).trans (xu_eq _ _ _)) (j := 0) rfl (by omega) (by omega) ?_
      rw [hfl 0 (by omega)]
      refine x_imul hC dX0_isImage_122 (q := 123) rfl ?_
      refine x_aloadr hC dX0_isImage_123 (q := 125) rfl rfl ?_
      refine x_iconst hC dX0_isImage_125 (q := 126) rfl (v := (1)) (by decide) ?_
      refine x_iald hC dX0_isImage_126 (q := 127) rfl (n := (109, 0)) ((kmix_F _ _ _ rfl).trans (xu_eq _ _ _)) (j := 1) rfl (by omega) (by omega) ?_
      rw [hfl 1 (by omega)]
      refine x_iadd hC dX0_isImage_127 (q := 128) rfl ?_
      rw [w256 (w := kI τ 3 0) ⟨hwt.1, by omega⟩ (show kIb τ 0 = (kI τ 3 0).toNat / 256 from kb0) (show kIb τ 1 = (kI τ 3 0).toNat % 256 from kb1)]
      refine x_aloadr_n hC dX0_isImage_128 (q := 129) rfl rfl ?_
      refine x_get hC xf_X0_207_16 dX0_isImage_129 (q := 132) rfl (n := (120, 0)) (hd0 _ _) rfl ?_
      rw [hAt.1.2.2.1]
      refine x_icmp_ne hC dX0_isImage_132 (q := 135) rfl (tgt := 155) rfl (fun h132 => ?_) (fun h132 => ?_)
      · exact absurd rfl h132
      refine x_sipush hC dX0_isImage_135 (q := 138) rfl (v := (256)) (by decide) ?_
      refine x_aloadr hC dX0_isImage_138 (q := 140) rfl rfl ?_
      refine x_iconst hC dX0_isImage_140 (q := 141) rfl (v := (2)) (by decide) ?_
      refine x_iald hC dX0_isImage_141 (q := 142) rfl (n := (109, 0)) ((kmix_F _ _ _ rfl).trans (xu_eq _ _ _)) (j := 2) rfl (by omega) (by omega) ?_
      rw [hfl 2 (by omega)]
      refine x_imul hC dX0_isImage_142 (q := 143) rfl ?_
      refine x_aloadr hC dX0_isImage_143 (q := 145) rfl rfl ?_
      refine x_iconst hC dX0_isImage_145 (q := 146) rfl (v := (3)) (by decide) ?_
      refine x_iald hC dX0_isImage_146 (q := 147) rfl (n := (109, 0)) ((kmix_F _ _ _ rfl).trans (xu_eq _ _ _)) (j := 3) rfl (by omega) (by omega) ?_
      rw [hfl 3 (by omega)]
      refine x_iadd hC dX0_isImage_147 (q := 148) rfl ?_
      rw [w256 (w := kI τ 7 0) h7 (show kIb τ 2 = (kI τ 7 0).toNat / 256 from kb2) (show kIb τ 3 = (kI τ 7 0).toNat % 256 from kb3)]
      refine x_aloadr_n hC dX0_isImage_148 (q := 149) rfl rfl ?_
      refine x_get hC xf_X0_195_16 dX0_isImage_149 (q := 152) rfl (n := (120, 0)) (hd0 _ _) rfl ?_
      rw [hAt.1.1]
      refine x_icmp_eq hC dX0_isImage_152 (q := 155) rfl (tgt := 157) rfl (fun h152 => ?_) (fun h152 => ?_)
      · have hx152 := h152
        refine x_iconst hC dX0_isImage_157 (q := 158) rfl (v := (0)) (by decide) ?_
        refine x_istore hC dX0_isImage_158 (q := 160) rfl rfl ?_
        refine x_loop (S := (fun x : Nat × Option Value × Option Value => ((9000 : Nat), (54000 : Nat), kmix τ1 (xu gF (109, 0) (some (a_45, xAi .int (5 + 6 * aI α 0 + aI α 1) fl))), ([some (.ref (kA τ1 0 0)), some (.ref aa), some (.ref a_0), some (.int (nI (5 + 6 * aI α 0 + aI α 1))), some (.ref a_45), some (.int (nI (kLst (kByt τ) (kIml τ)))), some (.int (nI x.1)), x.2.1, x.2.2] : xL), ([] : List Value)))) (Inv := fun x => x.1 ≤ aI α 0) (μ := fun x => aI α 0 - x.1) ?_ (0, none, none) (Nat.zero_le _)
        intro x hi ih
        obtain ⟨c, u7, u8⟩ := x
        dsimp only at hi ih ⊢
        refine x_iload hC dX0_isImage_160 (q := 162) rfl rfl ?_
        refine x_aloadr_n hC dX0_isImage_162 (q := 163) rfl rfl ?_
        refine x_get hC xf_X0_60_0 dX0_isImage_163 (q := 166) rfl (n := (101, 0)) (hat _ _) rfl ?_
        refine x_icmp_ge hC dX0_isImage_166 (q := 169) rfl (tgt := 385) rfl (fun h166 => ?_) (fun h166 => ?_)
        · have hc1 : c = aI α 0 := by
            have := (nI_leI (a := aI α 0) (b := c) (by omega) (by omega)).mp h166
            omega
          refine x_iconst hC dX0_isImage_385 (q := 386) rfl (v := (0)) (by decide) ?_
          refine x_istore hC dX0_isImage_386 (q := 388) rfl rfl ?_
          refine x_loop (S := (fun x : Nat => ((9000 : Nat), (54000 : Nat), kmix τ1 (xu gF (109, 0) (some (a_45, xAi .int (5 + 6 * aI α 0 + aI α 1) fl))), ([some (.ref (kA τ1 0 0)), some (.ref aa), some (.ref a_0), some (.int (nI (5 + 6 * aI α 0 + aI α 1))), some (.ref a_45), some (.int (nI (kLst (kByt τ) (kIml τ)))), some (.int (nI x)), u7, u8] : xL), ([] : List Value)))) (Inv := fun x => x ≤ aI α 1) (μ := fun x => aI α 1 - x) ?_ 0 (Nat.zero_le _)
          intro q hj ih2
          dsimp only at hj ih2 ⊢
          refine x_iload hC dX0_isImage_388 (q := 390) rfl rfl ?_
          refine x_aloadr_n hC dX0_isImage_390 (q := 391) rfl rfl ?_
          refine x_get hC xf_X0_54_0 dX0_isImage_391 (q := 394) rfl (n := (101, 0)) (hat _ _) rfl ?_
          refine x_icmp_ge hC dX0_isImage_394 (q := 397) rfl (tgt := 446) rfl (fun h394 => ?_) (fun h394 => ?_)
          · have hq1 : q = aI α 1 := by
              have := (nI_leI (a := aI α 1) (b := q) (by omega) (by omega)).mp h394
              omega
            refine x_aloadr_n hC dX0_isImage_446 (q := 447) rfl rfl ?_
            refine x_aloadr hC dX0_isImage_447 (q := 449) rfl rfl ?_
            refine x_callS hC xv_X0_45 dX0_isImage_449 (q := 452) rfl rfl (m_feed_n h0 τ1 (xu gF (109, 0) (some (a_45, xAi .int (5 + 6 * aI α 0 + aI α 1) fl))) ht1 (w := kIb τ) (xu_eq _ _ _) ((xu_ne (n_fst rfl)).trans h110) (by omega) (fun j hj => ⟨hib j, hfl j hj⟩)) rfl (Nat.le_of_ble_eq_true rfl) ⟨(by (try dsimp only); omega), (by (try dsimp only); omega)⟩ ⟨(by (try dsimp only); omega), (by (try dsimp only); omega)⟩ (fun v g1 hp => ?_)
            obtain ⟨rfl, b, hb, hg1⟩ := hp
            subst hg1
            have hE2a : kEy (kTa τ1 b (5 + 6 * aI α 0 + aI α 1)) τ1 := ⟨fun f k hf => by
              have f6 : f ≠ 0 := fun e => by subst e; cases hf
              exact if_neg (fun w => f6 w.1), rfl, rfl, rfl, rfl⟩
            have hE2 : kEy (kTa τ1 b (5 + 6 * aI α 0 + aI α 1)) τ := hE2a.trans hE1
            obtain ⟨τ2, h2⟩ : ∃ x, x = kTa τ1 b (5 + 6 * aI α 0 + aI α 1) := ⟨_, rfl⟩
            have hv2 : KV τ2 := by rw [h2]; exact hv1
            have hb2 : ∀ j, j < (5 + 6 * aI α 0 + aI α 1) → kV τ2 0 0 j = (kIb τ j : Int) := fun j hj => by rw [h2]; exact hb j hj
            have htp2 : kI τ2 0 0 = ((kIml τ2 + 1 : Nat) : Int) := by
              rw [← h2] at hE2
              rw [kIml_E hE2, hml, h2]; rfl
            rw [← h2] at hE2 ⊢
            rw [show kA τ1 0 0 = kA τ2 0 0 from by rw [h2]; rfl]
            clear h2
            refine x_if_eq hC dX0_isImage_452 (q := 455) rfl (tgt := 511) rfl (fun h452 => ?_) (fun h452 => ?_)
            · exact absurd h452 (by decide)
            refine x_aloadr_n hC dX0_isImage_455 (q := 456) rfl rfl ?_
            refine x_callV hC xv_X0_324 dX0_isImage_456 (q := 459) rfl rfl (m_X2_on h0 τ2 (xu gF (109, 0) (some (a_45, xAi .int (5 + 6 * aI α 0 + aI α 1) fl))) hv2 (hE2.KPl hpP) (fun j hj => by rw [kIb_E hE2]; exact hb2 j (by rw [kIml_E hE2, hml] at hj; exact hj)) (hE2.KNb hN) (hE2.sk hsk) (by rw [hE2.1 3 0 rfl]; exact ⟨hwt.1, by omega⟩) (by rw [hE2.1 7 0 rfl]; exact h7) htp2) (nn := (0, 0)) rfl rfl rfl (Nat.le_of_ble_eq_true rfl) ⟨(by (try dsimp only); omega), (by (try dsimp only); omega)⟩ ⟨(by (try dsimp only); omega), (by (try dsimp only); omega)⟩ (fun v g1 hp => ?_)
            obtain ⟨rfl, hg1⟩ := hp
            replace hg1 : g1 = kmix (kOn2 τ2 (kI τ2 16 0 + 1) (kI τ2 18 0 + 1)) (xu gF (109, 0) (some (a_45, xAi .int (5 + 6 * aI α 0 + aI α 1) fl))) := hg1
            subst hg1
            have hE3 : kEy (kOn2 τ2 (kI τ2 16 0 + 1) (kI τ2 18 0 + 1)) τ := (on_E τ2 _ _).trans hE2
            have hw3 : KW (kOn2 τ2 (kI τ2 16 0 + 1) (kI τ2 18 0 + 1)) := on_W hv2.1 _ _
            rw [show kA τ2 0 0 = kA (kOn2 τ2 (kI τ2 16 0 + 1) (kI τ2 18 0 + 1)) 0 0 from rfl]
            refine x_if_eq hC dX0_isImage_459 (q := 462) rfl (tgt := 511) rfl (fun h459 => ?_) (fun h459 => ?_)
            · exact absurd h459 (by decide)
            refine x_aloadr_n hC dX0_isImage_462 (q := 463) rfl rfl ?_
            refine x_bipush hC dX0_isImage_463 (q := 465) rfl (v := (8)) (by decide) ?_
            refine x_callV hC xv_X0_73 dX0_isImage_465 (q := 468) rfl rfl (m_X2_has_8 h0 (kOn2 τ2 (kI τ2 16 0 + 1) (kI τ2 18 0 + 1)) (xu gF (109, 0) (some (a_45, xAi .int (5 + 6 * aI α 0 + aI α 1) fl)))) (nn := (0, 0)) rfl rfl rfl (Nat.le_of_ble_eq_true rfl) ⟨(by (try dsimp only); omega), (by (try dsimp only); omega)⟩ ⟨(by (try dsimp only); omega), (by (try dsimp only); omega)⟩ (fun v g1 hp => ?_)
            obtain ⟨rfl, hg1⟩ := hp
            replace hg1 := hg1.symm
            subst hg1
            refine x_if_ne hC dX0_isImage_468 (q := 471) rfl (tgt := 511) rfl (fun h468 => ?_) (fun h468 => ?_)
            · exact absurd rfl h468
            refine x_aloadr_n hC dX0_isImage_471 (q := 472) rfl rfl ?_
            refine x_bipush hC dX0_isImage_472 (q := 474) rfl (v := (10)) (by decide) ?_
            refine x_callV hC xv_X0_73 dX0_isImage_474 (q := 477) rfl rfl (m_X2_has_10 h0 (kOn2 τ2 (kI τ2 16 0 + 1) (kI τ2 18 0 + 1)) (xu gF (109, 0) (some (a_45, xAi .int (5 + 6 * aI α 0 + aI α 1) fl)))) (nn := (0, 0)) rfl rfl rfl (Nat.le_of_ble_eq_true rfl) ⟨(by (try dsimp only); omega), (by (try dsimp only); omega)⟩ ⟨(by (try dsimp only); omega), (by (try dsimp only); omega)⟩ (fun v g1 hp => ?_)
            obtain ⟨rfl, hg1⟩ := hp
            replace hg1 := hg1.symm
            subst hg1
            refine x_if_ne hC dX0_isImage_477 (q := 480) rfl (tgt := 511) rfl (fun h477 => ?_) (fun h477 => ?_)
            · exact absurd rfl h477
            refine x_aloadr_n hC dX0_isImage_480 (q := 481) rfl rfl ?_
            refine x_callV hC xv_X0_244 dX0_isImage_481 (q := 484) rfl rfl (m_X2_undo_0 h0 (kOn2 τ2 (kI τ2 16 0 + 1) (kI τ2 18 0 + 1)) (xu gF (109, 0) (some (a_45, xAi .int (5 + 6 * aI α 0 + aI α 1) fl))) rfl) (nn := (0, 0)) rfl rfl rfl (Nat.le_of_ble_eq_true rfl) ⟨(by (try dsimp only); omega), (by (try dsimp only); omega)⟩ ⟨(by (try dsimp only); omega), (by (try dsimp only); omega)⟩ (fun v g1 hp => ?_)
            obtain ⟨rfl, hg1⟩ := hp
            subst hg1
            obtain ⟨τ4, h4⟩ : ∃ x, x = kVs (kOn2 τ2 (kI τ2 16 0 + 1) (kI τ2 18 0 + 1)) 1 0 4 (kV (kOn2 τ2 (kI τ2 16 0 + 1) (kI τ2 18 0 + 1)) 1 0 4 + 1) := ⟨_, rfl⟩
            rw [← h4]
            have hE4 : kEy τ4 τ := by rw [h4]; exact (show kEy (kVs (kOn2 τ2 (kI τ2 16 0 + 1) (kI τ2 18 0 + 1)) 1 0 4 (kV (kOn2 τ2 (kI τ2 16 0 + 1) (kI τ2 18 0 + 1)) 1 0 4 + 1)) (kOn2 τ2 (kI τ2 16 0 + 1) (kI τ2 18 0 + 1)) from ⟨fun _ _ _ => rfl, rfl, rfl, rfl, rfl⟩).trans hE3
            have hw4 : KW τ4 := by rw [h4]; exact hw3
            rw [show kA (kOn2 τ2 (kI τ2 16 0 + 1) (kI τ2 18 0 + 1)) 0 0 = kA τ4 0 0 from by rw [h4]; rfl]
            clear h4
            refine x_if_ne hC dX0_isImage_484 (q := 487) rfl (tgt := 511) rfl (fun h484 => ?_) (fun h484 => ?_)
            · exact absurd rfl h484
            refine x_aloadr_n hC dX0_isImage_487 (q := 488) rfl rfl ?_
            refine x_iconst hC dX0_isImage_488 (q := 489) rfl (v := (3)) (by decide) ?_
            refine x_callV hC xv_X0_73 dX0_isImage_489 (q := 492) rfl rfl (m_X2_has_3 h0 τ4 (xu gF (109, 0) (some (a_45, xAi .int (5 + 6 * aI α 0 + aI α 1) fl)))) (nn := (0, 0)) rfl rfl rfl (Nat.le_of_ble_eq_true rfl) ⟨(by (try dsimp only); omega), (by (try dsimp only); omega)⟩ ⟨(by (try dsimp only); omega), (by (try dsimp only); omega)⟩ (fun v g1 hp => ?_)
            rw [hE4.1 7 0 rfl, ← hAt.1.1] at hp
            obtain ⟨rfl, hg1⟩ := hp
            replace hg1 := hg1.symm
            subst hg1
            refine x_aloadr_n hC dX0_isImage_492 (q := 493) rfl rfl ?_
            refine x_get hC xf_X0_195_16 dX0_isImage_493 (q := 496) rfl (n := (120, 0)) (hd0 _ _) rfl ?_
            refine x_icmp_ne hC dX0_isImage_496 (q := 499) rfl (tgt := 511) rfl (fun h496 => ?_) (fun h496 => ?_)
            · exact absurd rfl h496
            refine x_aloadr_n hC dX0_isImage_499 (q := 500) rfl rfl ?_
            refine x_iconst hC dX0_isImage_500 (q := 501) rfl (v := (2)) (by decide) ?_
            refine x_callV hC xv_X0_73 dX0_isImage_501 (q := 504) rfl rfl (m_X2_has_2 h0 τ4 (xu gF (109, 0) (some (a_45, xAi .int (5 + 6 * aI α 0 + aI α 1) fl)))) (nn := (0, 0)) rfl rfl rfl (Nat.le_of_ble_eq_true rfl) ⟨(by (try dsimp only); omega), (by (try dsimp only); omega)⟩ ⟨(by (try dsimp only); omega), (by (try dsimp only); omega)⟩ (fun v g1 hp => ?_)
            rw [hE4.1 3 0 rfl, ← hAt.1.2.2.1] at hp
            obtain ⟨rfl, hg1⟩ := hp
            replace hg1 := hg1.symm
            subst hg1
            refine x_aloadr_n hC dX0_isImage_504 (q := 505) rfl rfl ?_
            refine x_get hC xf_X0_207_16 dX0_isImage_505 (q := 508) rfl (n := (120, 0)) (hd0 _ _) rfl ?_
            refine x_icmp_eq hC dX0_isImage_508 (q := 511) rfl (tgt := 513) rfl (fun h508 => ?_) (fun h508 => ?_)
            · have hx508 := h508
              refine x_iconst hC dX0_isImage_513 (q := 514) rfl (v := (0)) (by decide) ?_
              refine x_istore hC dX0_isImage_514 (q := 516) rfl rfl ?_
              refine x_widen (k0 := 9080) (n0 := 54400) (by (try dsimp only); omega) (by (try dsimp only); omega) ?_
              refine x_loop (S := (fun x : Nat => ((9080 : Nat), (54400 : Nat), kmix τ4 (xu gF (109, 0) (some (a_45, xAi .int (5 + 6 * aI α 0 + aI α 1) fl))), ([some (.ref (kA τ4 0 0)), some (.ref aa), some (.ref a_0), some (.int (nI (5 + 6 * aI α 0 + aI α 1))), some (.ref a_45), some (.int (nI (kLst (kByt τ) (kIml τ)))), some (.int (nI x)), u7, u8] : xL), ([] : List Value)))) (Inv := fun x => x ≤ aI α 0) (μ := fun x => aI α 0 - x) ?_ 0 (Nat.zero_le _)
              intro c hj ih3
              dsimp only at hj ih3 ⊢
              refine x_iload hC dX0_isImage_516 (q := 518) rfl rfl ?_
              refine x_aloadr_n hC dX0_isImage_518 (q := 519) rfl rfl ?_
              refine x_get hC xf_X0_60_0 dX0_isImage_519 (q := 522) rfl (n := (101, 0)) (hat _ _) rfl ?_
              refine x_icmp_ge hC dX0_isImage_522 (q := 525) rfl (tgt := 543) rfl (fun h522 => ?_) (fun h522 => ?_)
              · have hx522 := h522
                refine x_iconst hC dX0_isImage_543 (q := 544) rfl (v := (0)) (by decide) ?_
                refine x_istore hC dX0_isImage_544 (q := 546) rfl rfl ?_
                refine x_loop (S := (fun x : Nat => ((9080 : Nat), (54400 : Nat), kmix τ4 (xu gF (109, 0) (some (a_45, xAi .int (5 + 6 * aI α 0 + aI α 1) fl))), ([some (.ref (kA τ4 0 0)), some (.ref aa), some (.ref a_0), some (.int (nI (5 + 6 * aI α 0 + aI α 1))), some (.ref a_45), some (.int (nI (kLst (kByt τ) (kIml τ)))), some (.int (nI x)), u7, u8] : xL), ([] : List Value)))) (Inv := fun x => x ≤ aI α 1) (μ := fun x => aI α 1 - x) ?_ 0 (Nat.zero_le _)
                intro q hj ih3
                dsimp only at hj ih3 ⊢
                refine x_iload hC dX0_isImage_546 (q := 548) rfl rfl ?_
                refine x_aloadr_n hC dX0_isImage_548 (q := 549) rfl rfl ?_
                refine x_get hC xf_X0_54_0 dX0_isImage_549 (q := 552) rfl (n := (101, 0)) (hat _ _) rfl ?_
                refine x_icmp_ge hC dX0_isImage_552 (q := 555) rfl (tgt := 597) rfl (fun h552 => ?_) (fun h552 => ?_)
                · have hx552 := h552
                  refine x_aloadr_n hC dX0_isImage_597 (q := 598) rfl rfl ?_
                  refine x_callV hC xv_X0_314 dX0_isImage_598 (q := 601) rfl rfl (m_X2_image h0 τ4 (xu gF (109, 0) (some (a_45, xAi .int (5 + 6 * aI α 0 + aI α 1) fl))) hw4 (hE4.KPl hpP) (hE4.KNb hN) (by rw [hE4.1 3 0 rfl]; exact ⟨hwt.1, by omega⟩) (by rw [hE4.1 7 0 rfl]; exact h7)) (nn := (0, 0)) rfl rfl rfl (Nat.le_of_ble_eq_true rfl) ⟨(by (try dsimp only); omega), (by (try dsimp only); omega)⟩ ⟨(by (try dsimp only); omega), (by (try dsimp only); omega)⟩ (fun v g1 hp => ?_)
                  obtain ⟨rfl, hg1⟩ := hp
                  subst hg1
                  rw [kIml_E hE4, hml, kIb_E hE4]
                  obtain ⟨τ5, h5⟩ : ∃ x, x = kIm τ4 (kFil (kIb τ) (kV τ4 4 0) (5 + 6 * aI α 0 + aI α 1)) (5 + 6 * aI α 0 + aI α 1) := ⟨_, rfl⟩
                  rw [← h5]
                  have e65 : kI τ5 6 0 = (((5 + 6 * aI α 0 + aI α 1) : Nat) : Int) := by rw [h5]; rfl
                  have e45 : ∀ k, k < (5 + 6 * aI α 0 + aI α 1) → kV τ5 4 0 k = (kIb τ k : Int) := fun k hk => by rw [h5]; exact if_pos hk
                  have hE5 : kEy τ5 τ := by
                    rw [h5]
                    refine (show kEy (kIm τ4 (kFil (kIb τ) (kV τ4 4 0) (5 + 6 * aI α 0 + aI α 1)) (5 + 6 * aI α 0 + aI α 1)) τ4 from ⟨fun f k hf => ?_, rfl, rfl, rfl, rfl⟩).trans hE4
                    have f6 : f ≠ 6 := fun e => by subst e; cases hf
                    exact if_neg (fun w => f6 w.1)
                  have hw5 : KW τ5 := by rw [h5]; exact hw4
                  rw [show kA τ4 0 0 = kA τ5 0 0 from by rw [h5]; rfl]
                  clear h5
                  refine x_iload_n hC dX0_isImage_601 (q := 602) rfl rfl ?_
                  refine x_icmp_ne hC dX0_isImage_602 (q := 605) rfl (tgt := 609) rfl (fun h602 => ?_) (fun h602 => ?_)
                  · exact absurd rfl h602
                  refine x_iconst hC dX0_isImage_605 (q := 606) rfl (v := (1)) (by decide) ?_
                  refine x_goto hC dX0_isImage_606 (tgt := 610) rfl ?_
                  refine x_istore hC dX0_isImage_610 (q := 612) rfl rfl ?_
                  refine x_iconst hC dX0_isImage_612 (q := 613) rfl (v := (0)) (by decide) ?_
                  refine x_istore hC dX0_isImage_613 (q := 615) rfl rfl ?_
                  refine x_loop (S := (fun x : Nat => ((9080 : Nat), (54400 : Nat), kmix τ5 (xu gF (109, 0) (some (a_45, xAi .int (5 + 6 * aI α 0 + aI α 1) fl))), ([some (.ref (kA τ5 0 0)), some (.ref aa), some (.ref a_0), some (.int (nI (5 + 6 * aI α 0 + aI α 1))), some (.ref a_45), some (.int (nI (kLst (kByt τ) (kIml τ)))), some (.int 1), some (.int (nI x)), u8] : xL), ([] : List Value)))) (Inv := fun x => x ≤ (5 + 6 * aI α 0 + aI α 1)) (μ := fun x => (5 + 6 * aI α 0 + aI α 1) - x) ?_ 0 (Nat.zero_le _)
                  intro k hj ih3
                  dsimp only at hj ih3 ⊢
                  refine x_iload hC dX0_isImage_615 (q := 617) rfl rfl ?_
                  refine x_iload_n hC dX0_isImage_617 (q := 618) rfl rfl ?_
                  refine x_icmp_ge hC dX0_isImage_618 (q := 621) rfl (tgt := 653) rfl (fun h618 => ?_) (fun h618 => ?_)
                  · have hx618 := h618
                    refine x_iload hC dX0_isImage_653 (q := 655) rfl rfl ?_
                    refine x_if_eq hC dX0_isImage_655 (q := 658) rfl (tgt := 670) rfl (fun h655 => ?_) (fun h655 => ?_)
                    · exact absurd h655 (by decide)
                    refine x_aloadr_n hC dX0_isImage_658 (q := 659) rfl rfl ?_
                    refine x_aloadr_n hC dX0_isImage_659 (q := 660) rfl rfl ?_
                    refine x_callS hC xv_X0_89 dX0_isImage_660 (q := 663) rfl rfl (m_X0_areThere h0 τ5 (xu gF (109, 0) (some (a_45, xAi .int (5 + 6 * aI α 0 + aI α 1) fl))) (hAx _) hok hw5 (hE5.KPl hpP) (hE5.LT hl)) rfl (Nat.le_of_ble_eq_true rfl) ⟨(by (try dsimp only); omega), (by (try dsimp only); omega)⟩ ⟨(by (try dsimp only); omega), (by (try dsimp only); omega)⟩ (fun v g1 hp => ?_)
                    obtain ⟨rfl, hg1⟩ := hp
                    replace hg1 := hg1.symm
                    subst hg1
                    refine x_if_eq hC dX0_isImage_663 (q := 666) rfl (tgt := 670) rfl (fun h663 => ?_) (fun h663 => ?_)
                    · exact absurd h663 (by decide)
                    refine x_iconst hC dX0_isImage_666 (q := 667) rfl (v := (1)) (by decide) ?_
                    refine x_goto hC dX0_isImage_667 (tgt := 671) rfl ?_
                    exact x_zret hC hr rfl dX0_isImage_671 (by (try dsimp only); omega) (by (try dsimp only); omega) rfl
                  have hk1 : k < (5 + 6 * aI α 0 + aI α 1) := Nat.not_le.mp (fun w => h618 (nI_le w (by omega)))
                  refine x_iload hC dX0_isImage_621 (q := 623) rfl rfl ?_
                  refine x_if_eq hC dX0_isImage_623 (q := 626) rfl (tgt := 644) rfl (fun h623 => ?_) (fun h623 => ?_)
                  · exact absurd h623 (by decide)
                  refine x_aloadr_n hC dX0_isImage_626 (q := 627) rfl rfl ?_
                  refine x_iload hC dX0_isImage_627 (q := 629) rfl rfl ?_
                  refine x_callV hC xv_X0_317 dX0_isImage_629 (q := 632) rfl rfl (m_X2_octet h0 τ5 (xu gF (109, 0) (some (a_45, xAi .int (5 + 6 * aI α 0 + aI α 1) fl))) (n := (5 + 6 * aI α 0 + aI α 1)) (k := k) e65 (by omega) hk1) (nn := (0, 0)) rfl rfl rfl (Nat.le_of_ble_eq_true rfl) ⟨(by (try dsimp only); omega), (by (try dsimp only); omega)⟩ ⟨(by (try dsimp only); omega), (by (try dsimp only); omega)⟩ (fun v g1 hp => ?_)
                  rw [e45 k hk1, iI_nat] at hp
                  obtain ⟨rfl, hg1⟩ := hp
                  replace hg1 := hg1.symm
                  subst hg1
                  refine x_aloadr hC dX0_isImage_632 (q := 634) rfl rfl ?_
                  refine x_iload hC dX0_isImage_634 (q := 636) rfl rfl ?_
                  refine x_iald hC dX0_isImage_636 (q := 637) rfl (n := (109, 0)) ((kmix_F _ _ _ rfl).trans (xu_eq _ _ _)) (j := k) rfl (by omega) (by omega) ?_
                  rw [hfl k hk1]
                  refine x_icmp_ne hC dX0_isImage_637 (q := 640) rfl (tgt := 644) rfl (fun h637 => ?_) (fun h637 => ?_)
                  · exact absurd rfl h637
                  refine x_iconst hC dX0_isImage_640 (q := 641) rfl (v := (1)) (by decide) ?_
                  refine x_goto hC dX0_isImage_641 (tgt := 645) rfl ?_
                  refine x_istore hC dX0_isImage_645 (q := 647) rfl rfl ?_
                  refine x_iinc hC dX0_isImage_647 (q := 650) rfl rfl (v := nI (k + 1)) (nI_1 k) ?_
                  refine x_goto hC dX0_isImage_650 (tgt := 615) rfl ?_
                  exact ih3 (k + 1) (by (try dsimp only); omega) (by (try dsimp only); omega)
                have hq1 : q < aI α 1 := Nat.not_le.mp (fun w => h552 (nI_le w (by omega)))
                have hq4 : q < kA τ4 62 0 := by rw [hE4.2.2.2.2, hl.2.1]; exact hq1
                obtain ⟨v5, v6, v7, v8, v9⟩ := hAt.2.2.1 q hq1
                refine x_aloadr_n hC dX0_isImage_555 (q := 556) rfl rfl ?_
                refine x_iload hC dX0_isImage_556 (q := 558) rfl rfl ?_
                refine x_iconst hC dX0_isImage_558 (q := 559) rfl (v := (2)) (by decide) ?_
                refine x_callV hC xv_X0_80 dX0_isImage_559 (q := 562) rfl rfl (m_X2_kiln_2 h0 τ4 (xu gF (109, 0) (some (a_45, xAi .int (5 + 6 * aI α 0 + aI α 1) fl))) hw4 q hq4) (nn := (0, 0)) rfl rfl rfl (Nat.le_of_ble_eq_true rfl) ⟨(by (try dsimp only); omega), (by (try dsimp only); omega)⟩ ⟨(by (try dsimp only); omega), (by (try dsimp only); omega)⟩ (fun v g1 hp => ?_)
                rw [hE4.1 41 q rfl, ← v7] at hp
                obtain ⟨rfl, hg1⟩ := hp
                replace hg1 := hg1.symm
                subst hg1
                refine x_aloadr_n hC dX0_isImage_562 (q := 563) rfl rfl ?_
                refine x_get hC xf_X0_149_16 dX0_isImage_563 (q := 566) rfl (n := (120, 0)) (hd0 _ _) rfl ?_
                refine x_iload hC dX0_isImage_566 (q := 568) rfl rfl ?_
                refine x_iald hC dX0_isImage_568 (q := 569) rfl (n := (123, 0)) (hd3 _ _ 7 (by decide) (by decide)) (j := q) rfl (by omega) (by omega) ?_
                refine x_icmp_ne hC dX0_isImage_569 (q := 572) rfl (tgt := 589) rfl (fun h569 => ?_) (fun h569 => ?_)
                · exact absurd rfl h569
                refine x_aloadr_n hC dX0_isImage_572 (q := 573) rfl rfl ?_
                refine x_iload hC dX0_isImage_573 (q := 575) rfl rfl ?_
                refine x_iconst hC dX0_isImage_575 (q := 576) rfl (v := (1)) (by decide) ?_
                refine x_callV hC xv_X0_80 dX0_isImage_576 (q := 579) rfl rfl (m_X2_kiln_1 h0 τ4 (xu gF (109, 0) (some (a_45, xAi .int (5 + 6 * aI α 0 + aI α 1) fl))) hw4 q hq4) (nn := (0, 0)) rfl rfl rfl (Nat.le_of_ble_eq_true rfl) ⟨(by (try dsimp only); omega), (by (try dsimp only); omega)⟩ ⟨(by (try dsimp only); omega), (by (try dsimp only); omega)⟩ (fun v g1 hp => ?_)
                rw [hE4.full q, ← v6] at hp
                obtain ⟨rfl, hg1⟩ := hp
                replace hg1 := hg1.symm
                subst hg1
                refine x_aloadr_n hC dX0_isImage_579 (q := 580) rfl rfl ?_
                refine x_get hC xf_X0_115_16 dX0_isImage_580 (q := 583) rfl (n := (120, 0)) (hd0 _ _) rfl ?_
                refine x_iload hC dX0_isImage_583 (q := 585) rfl rfl ?_
                refine x_iald hC dX0_isImage_585 (q := 586) rfl (n := (122, 0)) (hd3 _ _ 6 (by decide) (by decide)) (j := q) rfl (by omega) (by omega) ?_
                refine x_icmp_eq hC dX0_isImage_586 (q := 589) rfl (tgt := 591) rfl (fun h586 => ?_) (fun h586 => ?_)
                · have hx586 := h586
                  refine x_iinc hC dX0_isImage_591 (q := 594) rfl rfl (v := nI (q + 1)) (nI_1 q) ?_
                  refine x_goto hC dX0_isImage_594 (tgt := 546) rfl ?_
                  exact ih3 (q + 1) (by (try dsimp only); omega) (by (try dsimp only); omega)
                · exact absurd rfl h586
              have hc1 : c < aI α 0 := Nat.not_le.mp (fun w => h522 (nI_le w (by omega)))
              refine x_aloadr_n hC dX0_isImage_525 (q := 526) rfl rfl ?_
              refine x_aloadr_n hC dX0_isImage_526 (q := 527) rfl rfl ?_
              refine x_iload hC dX0_isImage_527 (q := 529) rfl rfl ?_
              refine x_callV hC xv_X0_214 dX0_isImage_529 (q := 532) rfl rfl (m_X19_isSameChild h0 τ4 (xu gF (109, 0) (some (a_45, xAi .int (5 + 6 * aI α 0 + aI α 1) fl))) (hDx _) hw4 (c := c) (by rw [hE4.2.2.2.1, hl.1]; exact hc1) (by omega) ((hAt.2.2.2 c hc1).1.1.ey hE4)) (nn := (120, 0)) (hd0 _ _) rfl rfl (Nat.le_of_ble_eq_true rfl) ⟨(by (try dsimp only); omega), (by (try dsimp only); omega)⟩ ⟨(by (try dsimp only); omega), (by (try dsimp only); omega)⟩ (fun v g1 hp => ?_)
              obtain ⟨rfl, hg1⟩ := hp
              replace hg1 := hg1.symm
              subst hg1
              refine x_if_ne hC dX0_isImage_532 (q := 535) rfl (tgt := 537) rfl (fun h532 => ?_) (fun h532 => ?_)
              · have hx532 := h532
                refine x_iinc hC dX0_isImage_537 (q := 540) rfl rfl (v := nI (c + 1)) (nI_1 c) ?_
                refine x_goto hC dX0_isImage_540 (tgt := 516) rfl ?_
                exact ih3 (c + 1) (by (try dsimp only); omega) (by (try dsimp only); omega)
              · exact absurd h532 (by decide)
            · exact absurd rfl h508
          have hq1 : q < aI α 1 := Nat.not_le.mp (fun w => h394 (nI_le w (by omega)))
          have hq2 : q < kA τ 62 0 := by rw [hl.2.1]; exact hq1
          have h41 := hN.2 q hq2
          obtain ⟨v5, v6, v7, v8, v9⟩ := hAt.2.2.1 q hq1
          refine x_aloadr hC dX0_isImage_397 (q := 399) rfl rfl ?_
          refine x_iconst hC dX0_isImage_399 (q := 400) rfl (v := (4)) (by decide) ?_
          refine x_bipush hC dX0_isImage_400 (q := 402) rfl (v := (6)) (by decide) ?_
          refine x_aloadr_n hC dX0_isImage_402 (q := 403) rfl rfl ?_
          refine x_get hC xf_X0_60_0 dX0_isImage_403 (q := 406) rfl (n := (101, 0)) (hat _ _) rfl ?_
          refine x_imul hC dX0_isImage_406 (q := 407) rfl ?_
          refine x_iadd hC dX0_isImage_407 (q := 408) rfl ?_
          refine x_iload hC dX0_isImage_408 (q := 410) rfl rfl ?_
          refine x_iadd hC dX0_isImage_410 (q := 411) rfl ?_
          rw [show (4 : Int32) + 6 * nI (aI α 0) + nI q = nI (4 + 6 * aI α 0 + q) from by rw [show (4 : Int32) = nI 4 from rfl, show (6 : Int32) = nI 6 from rfl, nI_mu, nI_add, nI_add]]
          refine x_iald hC dX0_isImage_411 (q := 412) rfl (n := (109, 0)) ((kmix_F _ _ _ rfl).trans (xu_eq _ _ _)) (j := 4 + 6 * aI α 0 + q) rfl (by omega) (by omega) ?_
          rw [hfl (4 + 6 * aI α 0 + q) (by omega), show kIb τ (4 + 6 * aI α 0 + q) = k255 (kI τ 41 q) from (if_pos (by omega)).trans (by rw [← hl.1]; exact kByt_q τ q)]
          refine x_aloadr_n hC dX0_isImage_412 (q := 413) rfl rfl ?_
          refine x_get hC xf_X0_149_16 dX0_isImage_413 (q := 416) rfl (n := (120, 0)) (hd0 _ _) rfl ?_
          refine x_iload hC dX0_isImage_416 (q := 418) rfl rfl ?_
          refine x_iald hC dX0_isImage_418 (q := 419) rfl (n := (123, 0)) (hd3 _ _ 7 (by decide) (by decide)) (j := q) rfl (by omega) (by omega) ?_
          refine x_meet (pc2 := 435) (S := (fun x : Int32 => ((9000 : Nat), (54000 : Nat), kmix τ1 (xu gF (109, 0) (some (a_45, xAi .int (5 + 6 * aI α 0 + aI α 1) fl))), ([some (.ref (kA τ1 0 0)), some (.ref aa), some (.ref a_0), some (.int (nI (5 + 6 * aI α 0 + aI α 1))), some (.ref a_45), some (.int (nI (kLst (kByt τ) (kIml τ)))), some (.int (nI q)), u7, u8] : xL), ([.int x, .int (nI (k255 (kI τ 41 q)))] : List Value)))) (Inv := fun x => x = nI (k255 (kI τ 41 q))) (fun ih => ?_) (fun xx hi => ?_)
          · rw [v7]
            refine x_if_ge hC dX0_isImage_419 (q := 422) rfl (tgt := 428) rfl (fun h419 => ?_) (fun h419 => ?_)
            · have hneg : ¬ kI τ 41 q < 0 := fun w => absurd ((iI_lt (b := 0) ⟨by omega, by omega⟩ ⟨by decide, by decide⟩).mpr w) (Int32.not_lt.mpr h419)
              refine x_aloadr_n hC dX0_isImage_428 (q := 429) rfl rfl ?_
              refine x_get hC xf_X0_149_16 dX0_isImage_429 (q := 432) rfl (n := (120, 0)) (hd0 _ _) rfl ?_
              refine x_iload hC dX0_isImage_432 (q := 434) rfl rfl ?_
              refine x_iald hC dX0_isImage_434 (q := 435) rfl (n := (123, 0)) (hd3 _ _ 7 (by decide) (by decide)) (j := q) rfl (by omega) (by omega) ?_
              first
                | exact ih 255 ((i255 ⟨h41.1, by omega⟩).1 hneg).symm
                | exact ih (V 7 q) (v7.trans ((i255 ⟨h41.1, by omega⟩).2 hneg).symm)
            have hneg : kI τ 41 q < 0 := (iI_lt (b := 0) ⟨by omega, by omega⟩ ⟨by decide, by decide⟩).mp (Int32.not_le.mp h419)
            refine x_sipush hC dX0_isImage_422 (q := 425) rfl (v := (255)) (by decide) ?_
            refine x_goto hC dX0_isImage_425 (tgt := 435) rfl ?_
            first
              | exact ih 255 ((i255 ⟨h41.1, by omega⟩).1 hneg).symm
              | exact ih (V 7 q) (v7.trans ((i255 ⟨h41.1, by omega⟩).2 hneg).symm)
          subst hi
          dsimp only
          refine x_icmp_eq hC dX0_isImage_435 (q := 438) rfl (tgt := 440) rfl (fun h435 => ?_) (fun h435 => ?_)
          · have hx435 := h435
            refine x_iinc hC dX0_isImage_440 (q := 443) rfl rfl (v := nI (q + 1)) (nI_1 q) ?_
            refine x_goto hC dX0_isImage_443 (tgt := 388) rfl ?_
            exact ih2 (q + 1) (by (try dsimp only); omega) (by (try dsimp only); omega)
          · exact absurd rfl h435
        have hc1 : c < aI α 0 := Nat.not_le.mp (fun w => h166 (nI_le w (by omega)))
        have hc2 : c < kA τ 61 0 := by rw [hl.1]; exact hc1
        have hDC := (hAt.2.2.2 c hc1).1.1
        have hn := hN.1 c hc2
        have hby : ∀ r, r < 6 → fl (4 + 6 * c + r) = nI (kBy6 τ c r) := fun r hr6 => by
          rw [hfl (4 + 6 * c + r) (by omega), show kIb τ (4 + 6 * c + r) = kByt τ (4 + 6 * c + r) from if_pos (by omega), kByt_c τ hc2 hr6]
        refine x_iconst hC dX0_isImage_169 (q := 170) rfl (v := (4)) (by decide) ?_
        refine x_bipush hC dX0_isImage_170 (q := 172) rfl (v := (6)) (by decide) ?_
        refine x_iload hC dX0_isImage_172 (q := 174) rfl rfl ?_
        refine x_imul hC dX0_isImage_174 (q := 175) rfl ?_
        refine x_iadd hC dX0_isImage_175 (q := 176) rfl ?_
        rw [show (4 : Int32) + 6 * nI c = nI (4 + 6 * c) from by rw [show (4 : Int32) = nI 4 from rfl, show (6 : Int32) = nI 6 from rfl, nI_mu, nI_add]]
        refine x_istore hC dX0_isImage_176 (q := 178) rfl rfl ?_
        refine x_aloadr hC dX0_isImage_178 (q := 180) rfl rfl ?_
        refine x_iload hC dX0_isImage_180 (q := 182) rfl rfl ?_
        refine x_iald hC dX0_isImage_182 (q := 183) rfl (n := (109, 0)) ((kmix_F _ _ _ rfl).trans (xu_eq _ _ _)) (j := 4 + 6 * c) rfl (by omega) (by omega) ?_
        rw [show fl (4 + 6 * c) = nI (kBy6 τ c 0) from hby 0 (by decide)]
        refine x_aloadr_n hC dX0_isImage_183 (q := 184) rfl rfl ?_
        refine x_get hC xf_X0_163_16 dX0_isImage_184 (q := 187) rfl (n := (120, 0)) (hd0 _ _) rfl ?_
        refine x_iload hC dX0_isImage_187 (q := 189) rfl rfl ?_
        refine x_zald hC dX0_isImage_189 (q := 190) rfl (n := (131, 0)) (hdb _ _) (j := c) rfl (by omega) (by omega) ?_
        refine x_meet (pc2 := 198) (S := (fun x : Int32 => ((9000 : Nat), (54000 : Nat), kmix τ1 (xu gF (109, 0) (some (a_45, xAi .int (5 + 6 * aI α 0 + aI α 1) fl))), ([some (.ref (kA τ1 0 0)), some (.ref aa), some (.ref a_0), some (.int (nI (5 + 6 * aI α 0 + aI α 1))), some (.ref a_45), some (.int (nI (kLst (kByt τ) (kIml τ)))), some (.int (nI c)), some (.int (nI (4 + 6 * c))), u8] : xL), ([.int x, .int (nI (kBy6 τ c 0))] : List Value)))) (Inv := fun x => x = nI (kBy6 τ c 0)) (fun ih => ?_) (fun xx hi => ?_)
        · rw [hDC.2.2.2.1]
          refine x_if_eq hC dX0_isImage_190 (q := 193) rfl (tgt := 197) rfl (fun h190 => ?_) (fun h190 => ?_)
          · have hfd : ¬ iI (kI τ 34 c) = -1 := fun w => by rw [if_pos w] at h190; exact absurd h190 (by decide)
            refine x_iconst hC dX0_isImage_197 (q := 198) rfl (v := (1)) (by decide) ?_
            first
              | exact ih 1 (by show (1 : Int32) = nI (if iI (kI τ 34 c) = -1 then 0 else 1); rw [if_neg hfd]; rfl)
              | exact ih 0 (by show (0 : Int32) = nI (if iI (kI τ 34 c) = -1 then 0 else 1); rw [if_pos hrw]; rfl)
          have hrw : iI (kI τ 34 c) = -1 := Classical.byContradiction (fun w => h190 (if_neg w))
          refine x_iconst hC dX0_isImage_193 (q := 194) rfl (v := (0)) (by decide) ?_
          refine x_goto hC dX0_isImage_194 (tgt := 198) rfl ?_
          first
            | exact ih 1 (by show (1 : Int32) = nI (if iI (kI τ 34 c) = -1 then 0 else 1); rw [if_neg hfd]; rfl)
            | exact ih 0 (by show (0 : Int32) = nI (if iI (kI τ 34 c) = -1 then 0 else 1); rw [if_pos hrw]; rfl)
        subst hi
        dsimp only
        refine x_icmp_ne hC dX0_isImage_198 (q := 201) rfl (tgt := 271) rfl (fun h198 => ?_) (fun h198 => ?_)
        · exact absurd rfl h198
        refine x_aloadr hC dX0_isImage_201 (q := 203) rfl rfl ?_
        refine x_iload hC dX0_isImage_203 (q := 205) rfl rfl ?_
        refine x_iconst hC dX0_isImage_205 (q := 206) rfl (v := (1)) (by decide) ?_
        refine x_iadd hC dX0_isImage_206 (q := 207) rfl ?_
        rw [show nI (4 + 6 * c) + 1 = nI (4 + 6 * c + 1) from nI_1 _]
        refine x_iald hC dX0_isImage_207 (q := 208) rfl (n := (109, 0)) ((kmix_F _ _ _ rfl).trans (xu_eq _ _ _)) (j := 4 + 6 * c + 1) rfl (by omega) (by omega) ?_
        rw [hby 1 (by decide)]
        refine x_aloadr_n hC dX0_isImage_208 (q := 209) rfl rfl ?_
        refine x_get hC xf_X0_120_16 dX0_isImage_209 (q := 212) rfl (n := (120, 0)) (hd0 _ _) rfl ?_
        refine x_iload hC dX0_isImage_212 (q := 214) rfl rfl ?_
        refine x_iald hC dX0_isImage_214 (q := 215) rfl (n := (126, 0)) (hd6 _ _ 10 (by decide) (by decide)) (j := c) rfl (by omega) (by omega) ?_
        refine x_meet (pc2 := 231) (S := (fun x : Int32 => ((9000 : Nat), (54000 : Nat), kmix τ1 (xu gF (109, 0) (some (a_45, xAi .int (5 + 6 * aI α 0 + aI α 1) fl))), ([some (.ref (kA τ1 0 0)), some (.ref aa), some (.ref a_0), some (.int (nI (5 + 6 * aI α 0 + aI α 1))), some (.ref a_45), some (.int (nI (kLst (kByt τ) (kIml τ)))), some (.int (nI c)), some (.int (nI (4 + 6 * c))), u8] : xL), ([.int x, .int (nI (kBy6 τ c 1))] : List Value)))) (Inv := fun x => x = nI (kBy6 τ c 1)) (fun ih => ?_) (fun xx hi => ?_)
        · rw [hDC.1]
          refine x_if_ge hC dX0_isImage_215 (q := 218) rfl (tgt := 224) rfl (fun h215 => ?_) (fun h215 => ?_)
          · obtain ⟨q0, hkq⟩ : ∃ q, kO τ 0 c 0 = some q := by
              cases e : kO τ 0 c 0 with
              | none => unfold kKil at h215; rw [e] at h215; exact absurd h215 (by decide)
              | some q => exact ⟨q, rfl⟩
            refine x_aloadr_n hC dX0_isImage_224 (q := 225) rfl rfl ?_
            refine x_get hC xf_X0_120_16 dX0_isImage_225 (q := 228) rfl (n := (120, 0)) (hd0 _ _) rfl ?_
            refine x_iload hC dX0_isImage_228 (q := 230) rfl rfl ?_
            refine x_iald hC dX0_isImage_230 (q := 231) rfl (n := (126, 0)) (hd6 _ _ 10 (by decide) (by decide)) (j := c) rfl (by omega) (by omega) ?_
            first
              | exact ih 255 (by show (255 : Int32) = nI (match kO τ 0 c 0 with | none => 255 | some q => q); rw [hno]; rfl)
              | exact ih (V 10 c) (by show V 10 c = nI (match kO τ 0 c 0 with | none => 255 | some q => q); rw [hDC.1]; unfold kKil; rw [hkq])
          have hno : kO τ 0 c 0 = none := by
            cases e : kO τ 0 c 0 with
            | none => rfl
            | some q =>
              unfold kKil at h215; rw [e] at h215
              exact absurd (nI_le (a := 0) (b := q) (Nat.zero_le _) (by have := (hpP.2.1 c q hc2 e).1; rw [hl.2.1] at this; omega)) h215
          refine x_sipush hC dX0_isImage_218 (q := 221) rfl (v := (255)) (by decide) ?_
          refine x_goto hC dX0_isImage_221 (tgt := 231) rfl ?_
          first
            | exact ih 255 (by show (255 : Int32) = nI (match kO τ 0 c 0 with | none => 255 | some q => q); rw [hno]; rfl)
            | exact ih (V 10 c) (by show V 10 c = nI (match kO τ 0 c 0 with | none => 255 | some q => q); rw [hDC.1]; unfold kKil; rw [hkq])
        subst hi
        dsimp only
        refine x_icmp_ne hC dX0_isImage_231 (q := 234) rfl (tgt := 271) rfl (fun h231 => ?_) (fun h231 => ?_)
        · exact absurd rfl h231
        refine x_aloadr hC dX0_isImage_234 (q := 236) rfl rfl ?_
        refine x_iload hC dX0_isImage_236 (q := 238) rfl rfl ?_
        refine x_iconst hC dX0_isImage_238 (q := 239) rfl (v := (2)) (by decide) ?_
        refine x_iadd hC dX0_isImage_239 (q := 240) rfl ?_
        rw [show nI (4 + 6 * c) + 2 = nI (4 + 6 * c + 2) from nI_add _ 2]
        refine x_iald hC dX0_isImage_240 (q := 241) rfl (n := (109, 0)) ((kmix_F _ _ _ rfl).trans (xu_eq _ _ _)) (j := 4 + 6 * c + 2) rfl (by omega) (by omega) ?_
        rw [hby 2 (by decide)]
        refine x_aloadr_n hC dX0_isImage_241 (q := 242) rfl rfl ?_
        refine x_get hC xf_X0_122_16 dX0_isImage_242 (q := 245) rfl (n := (120, 0)) (hd0 _ _) rfl ?_
        refine x_iload hC dX0_isImage_245 (q := 247) rfl rfl ?_
        refine x_iald hC dX0_isImage_247 (q := 248) rfl (n := (127, 0)) (hd6 _ _ 11 (by decide) (by decide)) (j := c) rfl (by omega) (by omega) ?_
        refine x_meet (pc2 := 264) (S := (fun x : Int32 => ((9000 : Nat), (54000 : Nat), kmix τ1 (xu gF (109, 0) (some (a_45, xAi .int (5 + 6 * aI α 0 + aI α 1) fl))), ([some (.ref (kA τ1 0 0)), some (.ref aa), some (.ref a_0), some (.int (nI (5 + 6 * aI α 0 + aI α 1))), some (.ref a_45), some (.int (nI (kLst (kByt τ) (kIml τ)))), some (.int (nI c)), some (.int (nI (4 + 6 * c))), u8] : xL), ([.int x, .int (nI (kBy6 τ c 2))] : List Value)))) (Inv := fun x => x = nI (kBy6 τ c 2)) (fun ih => ?_) (fun xx hi => ?_)
        · rw [hDC.2.1]
          have h33 := hl.at33 hpP hok hc1
          refine x_if_ge hC dX0_isImage_248 (q := 251) rfl (tgt := 257) rfl (fun h248 => ?_) (fun h248 => ?_)
          · have hneg : ¬ kI τ 33 c < 0 := fun w => absurd ((iI_lt (b := 0) ⟨by omega, by omega⟩ ⟨by decide, by decide⟩).mpr w) (Int32.not_lt.mpr h248)
            refine x_aloadr_n hC dX0_isImage_257 (q := 258) rfl rfl ?_
            refine x_get hC xf_X0_122_16 dX0_isImage_258 (q := 261) rfl (n := (120, 0)) (hd0 _ _) rfl ?_
            refine x_iload hC dX0_isImage_261 (q := 263) rfl rfl ?_
            refine x_iald hC dX0_isImage_263 (q := 264) rfl (n := (127, 0)) (hd6 _ _ 11 (by decide) (by decide)) (j := c) rfl (by omega) (by omega) ?_
            first
              | exact ih 255 ((i255 ⟨h33.1, by omega⟩).1 hneg).symm
              | exact ih (V 11 c) (hDC.2.1.trans ((i255 ⟨h33.1, by omega⟩).2 hneg).symm)
          have hneg : kI τ 33 c < 0 := (iI_lt (b := 0) ⟨by omega, by omega⟩ ⟨by decide, by decide⟩).mp (Int32.not_le.mp h248)
          refine x_sipush hC dX0_isImage_251 (q := 254) rfl (v := (255)) (by decide) ?_
          refine x_goto hC dX0_isImage_254 (tgt := 264) rfl ?_
          first
            | exact ih 255 ((i255 ⟨h33.1, by omega⟩).1 hneg).symm
            | exact ih (V 11 c) (hDC.2.1.trans ((i255 ⟨h33.1, by omega⟩).2 hneg).symm)
        subst hi
        dsimp only
        refine x_icmp_ne hC dX0_isImage_264 (q := 267) rfl (tgt := 271) rfl (fun h264 => ?_) (fun h264 => ?_)
        · exact absurd rfl h264
        refine x_iconst hC dX0_isImage_267 (q := 268) rfl (v := (1)) (by decide) ?_
        refine x_goto hC dX0_isImage_268 (tgt := 272) rfl ?_
        refine x_istore hC dX0_isImage_272 (q := 274) rfl rfl ?_
        refine x_iload hC dX0_isImage_274 (q := 276) rfl rfl ?_
        refine x_if_eq hC dX0_isImage_276 (q := 279) rfl (tgt := 369) rfl (fun h276 => ?_) (fun h276 => ?_)
        · exact absurd h276 (by decide)
        refine x_aloadr hC dX0_isImage_279 (q := 281) rfl rfl ?_
        refine x_iload hC dX0_isImage_281 (q := 283) rfl rfl ?_
        refine x_iconst hC dX0_isImage_283 (q := 284) rfl (v := (3)) (by decide) ?_
        refine x_iadd hC dX0_isImage_284 (q := 285) rfl ?_
        rw [show nI (4 + 6 * c) + 3 = nI (4 + 6 * c + 3) from nI_add _ 3]
        refine x_iald hC dX0_isImage_285 (q := 286) rfl (n := (109, 0)) ((kmix_F _ _ _ rfl).trans (xu_eq _ _ _)) (j := 4 + 6 * c + 3) rfl (by omega) (by omega) ?_
        rw [hby 3 (by decide)]
        refine x_aloadr_n hC dX0_isImage_286 (q := 287) rfl rfl ?_
        refine x_get hC xf_X0_163_16 dX0_isImage_287 (q := 290) rfl (n := (120, 0)) (hd0 _ _) rfl ?_
        refine x_iload hC dX0_isImage_290 (q := 292) rfl rfl ?_
        refine x_zald hC dX0_isImage_292 (q := 293) rfl (n := (131, 0)) (hdb _ _) (j := c) rfl (by omega) (by omega) ?_
        refine x_meet (pc2 := 309) (S := (fun x : Int32 => ((9000 : Nat), (54000 : Nat), kmix τ1 (xu gF (109, 0) (some (a_45, xAi .int (5 + 6 * aI α 0 + aI α 1) fl))), ([some (.ref (kA τ1 0 0)), some (.ref aa), some (.ref a_0), some (.int (nI (5 + 6 * aI α 0 + aI α 1))), some (.ref a_45), some (.int (nI (kLst (kByt τ) (kIml τ)))), some (.int (nI c)), some (.int (nI (4 + 6 * c))), some (.int 1)] : xL), ([.int x, .int (nI (kBy6 τ c 3))] : List Value)))) (Inv := fun x => x = nI (kBy6 τ c 3)) (fun ih => ?_) (fun xx hi => ?_)
        · rw [hDC.2.2.2.1]
          refine x_if_eq hC dX0_isImage_293 (q := 296) rfl (tgt := 302) rfl (fun h293 => ?_) (fun h293 => ?_)
          · have h34n : ¬ kI τ 34 c < 0 := fun w => by
              rw [if_pos (show iI (kI τ 34 c) = -1 by rw [show kI τ 34 c = -1 by omega]; rfl)] at h293
              exact absurd h293 (by decide)
            refine x_aloadr_n hC dX0_isImage_302 (q := 303) rfl rfl ?_
            refine x_get hC xf_X0_320_16 dX0_isImage_303 (q := 306) rfl (n := (120, 0)) (hd0 _ _) rfl ?_
            refine x_iload hC dX0_isImage_306 (q := 308) rfl rfl ?_
            refine x_iald hC dX0_isImage_308 (q := 309) rfl (n := (128, 0)) (hd6 _ _ 12 (by decide) (by decide)) (j := c) rfl (by omega) (by omega) ?_
            first
              | exact ih 255 ((i255 ⟨hn.1.1, by omega⟩).1 h34n).symm
              | exact ih (V 12 c) (hDC.2.2.1.trans ((i255 ⟨hn.1.1, by omega⟩).2 h34n).symm)
          have h34n : kI τ 34 c < 0 := by
            have w : iI (kI τ 34 c) = -1 := Classical.byContradiction (fun w => h293 (if_neg w))
            have := (iI_eq (b := -1) ⟨by omega, by omega⟩ ⟨by decide, by decide⟩).mp w
            omega
          refine x_sipush hC dX0_isImage_296 (q := 299) rfl (v := (255)) (by decide) ?_
          refine x_goto hC dX0_isImage_299 (tgt := 309) rfl ?_
          first
            | exact ih 255 ((i255 ⟨hn.1.1, by omega⟩).1 h34n).symm
            | exact ih (V 12 c) (hDC.2.2.1.trans ((i255 ⟨hn.1.1, by omega⟩).2 h34n).symm)
        subst hi
        dsimp only
        refine x_icmp_ne hC dX0_isImage_309 (q := 312) rfl (tgt := 369) rfl (fun h309 => ?_) (fun h309 => ?_)
        · exact absurd rfl h309
        refine x_aloadr hC dX0_isImage_312 (q := 314) rfl rfl ?_
        refine x_iload hC dX0_isImage_314 (q := 316) rfl rfl ?_
        refine x_iconst hC dX0_isImage_316 (q := 317) rfl (v := (4)) (by decide) ?_
        refine x_iadd hC dX0_isImage_317 (q := 318) rfl ?_
        rw [show nI (4 + 6 * c) + 4 = nI (4 + 6 * c + 4) from nI_add _ 4]
        refine x_iald hC dX0_isImage_318 (q := 319) rfl (n := (109, 0)) ((kmix_F _ _ _ rfl).trans (xu_eq _ _ _)) (j := 4 + 6 * c + 4) rfl (by omega) (by omega) ?_
        rw [hby 4 (by decide)]
        refine x_aloadr_n hC dX0_isImage_319 (q := 320) rfl rfl ?_
        refine x_iload hC dX0_isImage_320 (q := 322) rfl rfl ?_
        refine x_bipush hC dX0_isImage_322 (q := 324) rfl (v := (6)) (by decide) ?_
        refine x_callV hC xv_X0_63 dX0_isImage_324 (q := 327) rfl rfl (m_X2_child_6 h0 τ1 (xu gF (109, 0) (some (a_45, xAi .int (5 + 6 * aI α 0 + aI α 1) fl))) hw1 c (by rw [hE1.2.2.2.1]; exact hc2)) (nn := (0, 0)) rfl rfl rfl (Nat.le_of_ble_eq_true rfl) ⟨(by (try dsimp only); omega), (by (try dsimp only); omega)⟩ ⟨(by (try dsimp only); omega), (by (try dsimp only); omega)⟩ (fun v g1 hp => ?_)
        rw [hE1.1 36 c rfl, show (if iI (kI τ 36 c) = 0 then (0 : Int32) else 1) = nI (kBy6 τ c 4) from by
          show _ = nI (if iI (kI τ 36 c) = 0 then 0 else 1)
          split <;> rfl] at hp
        obtain ⟨rfl, hg1⟩ := hp
        replace hg1 := hg1.symm
        subst hg1
        refine x_icmp_ne hC dX0_isImage_327 (q := 330) rfl (tgt := 369) rfl (fun h327 => ?_) (fun h327 => ?_)
        · exact absurd rfl h327
        refine x_aloadr hC dX0_isImage_330 (q := 332) rfl rfl ?_
        refine x_iload hC dX0_isImage_332 (q := 334) rfl rfl ?_
        refine x_iconst hC dX0_isImage_334 (q := 335) rfl (v := (5)) (by decide) ?_
        refine x_iadd hC dX0_isImage_335 (q := 336) rfl ?_
        rw [show nI (4 + 6 * c) + 5 = nI (4 + 6 * c + 5) from nI_add _ 5]
        refine x_iald hC dX0_isImage_336 (q := 337) rfl (n := (109, 0)) ((kmix_F _ _ _ rfl).trans (xu_eq _ _ _)) (j := 4 + 6 * c + 5) rfl (by omega) (by omega) ?_
        rw [hby 5 (by decide), show nI (kBy6 τ c 5) = iI (kI τ 35 c) from i35 hn.2.1]
        refine x_aloadr_n hC dX0_isImage_337 (q := 338) rfl rfl ?_
        refine x_get hC xf_X0_322_16 dX0_isImage_338 (q := 341) rfl (n := (120, 0)) (hd0 _ _) rfl ?_
        refine x_iload hC dX0_isImage_341 (q := 343) rfl rfl ?_
        refine x_iald hC dX0_isImage_343 (q := 344) rfl (n := (129, 0)) (hd6 _ _ 13 (by decide) (by decide)) (j := c) rfl (by omega) (by omega) ?_
        refine x_iconst hC dX0_isImage_344 (q := 345) rfl (v := (-1)) (by decide) ?_
        refine x_ixor hC dX0_isImage_345 (q := 346) rfl ?_
        refine x_iand hC dX0_isImage_346 (q := 347) rfl ?_
        rw [mask_0 (x := iI (kI τ 35 c)) (y := V 13 c) (fun i hi hb => by
          by_cases hrw : iI (kI τ 34 c) = -1
          · rw [(hM c hc2).2 ((iI_eq (b := -1) ⟨by omega, by omega⟩ ⟨by decide, by decide⟩).mp hrw) i hi] at hb
            cases hb
          · have hk := hDC.2.2.2.2.2 hrw
            exact hk.2.1 c hc2 hk.1 i hi hb)]
        refine x_if_ne hC dX0_isImage_347 (q := 350) rfl (tgt := 369) rfl (fun h347 => ?_) (fun h347 => ?_)
        · exact absurd rfl h347
        refine x_aloadr hC dX0_isImage_350 (q := 352) rfl rfl ?_
        refine x_iload hC dX0_isImage_352 (q := 354) rfl rfl ?_
        refine x_iconst hC dX0_isImage_354 (q := 355) rfl (v := (5)) (by decide) ?_
        refine x_iadd hC dX0_isImage_355 (q := 356) rfl ?_
        rw [show nI (4 + 6 * c) + 5 = nI (4 + 6 * c + 5) from nI_add _ 5]
        refine x_iald hC dX0_isImage_356 (q := 357) rfl (n := (109, 0)) ((kmix_F _ _ _ rfl).trans (xu_eq _ _ _)) (j := 4 + 6 * c + 5) rfl (by omega) (by omega) ?_
        rw [hby 5 (by decide), show nI (kBy6 τ c 5) = iI (kI τ 35 c) from i35 hn.2.1]
        refine x_iload hC dX0_isImage_357 (q := 359) rfl rfl ?_
        refine x_ishr hC dX0_isImage_359 (q := 360) rfl ?_
        refine x_iconst hC dX0_isImage_360 (q := 361) rfl (v := (1)) (by decide) ?_
        refine x_iand hC dX0_isImage_361 (q := 362) rfl ?_
        rw [(b_at0 (iI (kI τ 35 c)) (show c < 32 by omega)).mpr (by
          cases hb : bt (iI (kI τ 35 c)) c with
          | false => rfl
          | true => exact absurd rfl ((hM c hc2).1 c (by omega) hb).2.1)]
        refine x_if_ne hC dX0_isImage_362 (q := 365) rfl (tgt := 369) rfl (fun h362 => ?_) (fun h362 => ?_)
        · exact absurd rfl h362
        refine x_iconst hC dX0_isImage_365 (q := 366) rfl (v := (1)) (by decide) ?_
        refine x_goto hC dX0_isImage_366 (tgt := 370) rfl ?_
        refine x_istore hC dX0_isImage_370 (q := 372) rfl rfl ?_
        refine x_iload hC dX0_isImage_372 (q := 374) rfl rfl ?_
        refine x_if_ne hC dX0_isImage_374 (q := 377) rfl (tgt := 379) rfl (fun h374 => ?_) (fun h374 => ?_)
        · have hx374 := h374
          refine x_iinc hC dX0_isImage_379 (q := 382) rfl rfl (v := nI (c + 1)) (nI_1 c) ?_
          refine x_goto hC dX0_isImage_382 (tgt := 160) rfl ?_
          exact ih (c + 1, _, _) (by (try dsimp only); omega) (by (try dsimp only); omega)
        · exact absurd h374 (by decide)
      · exact absurd rfl h152
    have hk1 : k < (5 + 6 * aI α 0 + aI α 1) := Nat.not_le.mp (fun w => h60 (nI_le w (by omega)))
    refine x_aloadr hC dX0_isImage_63 (q := 65) rfl rfl ?_
    refine x_iload hC dX0_isImage_65 (q := 67) rfl rfl ?_
    refine x_aloadr_n hC dX0_isImage_67 (q := 68) rfl rfl ?_
    refine x_iload hC dX0_isImage_68 (q := 70) rfl rfl ?_
    refine x_callV hC xv_X0_317 dX0_isImage_70 (q := 73) rfl rfl (m_X2_octet h0 τ1 (xu gF (109, 0) (some (a_45, xAi .int (5 + 6 * aI α 0 + aI α 1) fl))) (n := (5 + 6 * aI α 0 + aI α 1)) (k := k) e6 (by omega) hk1) (nn := (0, 0)) rfl rfl rfl (Nat.le_of_ble_eq_true rfl) ⟨(by (try dsimp only); omega), (by (try dsimp only); omega)⟩ ⟨(by (try dsimp only); omega), (by (try dsimp only); omega)⟩ (fun v g1 hp => ?_)
    rw [e4 k hk1, iI_nat] at hp
    obtain ⟨rfl, hg1⟩ := hp
    replace hg1 := hg1.symm
    subst hg1
    refine x_iast hC dX0_isImage_73 (q := 74) rfl (n := (109, 0)) rfl ((kmix_F _ _ _ rfl).trans (xu_eq _ _ _)) (j := k) rfl (by omega) (by omega) ?_
    refine x_geq (g' := kmix τ1 (xu gF (109, 0) (some (a_45, xAi .int (5 + 6 * aI α 0 + aI α 1) (upd fl k (nI (kIb τ k))))))) (by rw [kmix_xuF _ _ _ _ rfl, xu_xu]) ?_
    have hfl2 : ∀ j, j < k + 1 → upd fl k (nI (kIb τ k)) j = nI (kIb τ j) := fun j hj => by
      unfold upd
      by_cases e : j = k
      · subst e; rw [if_pos rfl]
      · rw [if_neg e]; exact hfl j (by omega)
    refine x_iload hC dX0_isImage_74 (q := 76) rfl rfl ?_
    refine x_iload_n hC dX0_isImage_76 (q := 77) rfl rfl ?_
    refine x_iconst hC dX0_isImage_77 (q := 78) rfl (v := (1)) (by decide) ?_
    refine x_isub hC dX0_isImage_78 (q := 79) rfl ?_
    rw [show nI (5 + 6 * aI α 0 + aI α 1) - 1 = nI (kIml τ) from by rw [← hml, ← nI_1, Int32.add_sub_cancel]]
    refine x_icmp_ge hC dX0_isImage_79 (q := 82) rfl (tgt := 98) rfl (fun h79 => ?_) (fun h79 => ?_)
    · have hkm : kIml τ ≤ k := (nI_leI (by omega) (by omega)).mp h79
      refine x_iinc hC dX0_isImage_98 (q := 101) rfl rfl (v := nI (k + 1)) (nI_1 k) ?_
      refine x_goto hC dX0_isImage_101 (tgt := 57) rfl ?_
      first
        | exact ih (k + 1, _, ck) ⟨by (try dsimp only); omega, hfl2, by (try dsimp only); rw [hckk, show min (k + 1) (kIml τ) = min k (kIml τ) by omega]⟩ (by (try dsimp only); omega)
        | exact ih (k + 1, _, (5 * ck + kIb τ k) % 251) ⟨by (try dsimp only); omega, hfl2, by
            (try dsimp only)
            rw [hckk, show min (k + 1) (kIml τ) = k + 1 by omega, show min k (kIml τ) = k by omega, show kIb τ k = kByt τ k from if_pos (by omega)]
            rfl⟩ (by (try dsimp only); omega)
    have hkm : k < kIml τ := Nat.not_le.mp (fun w => h79 (nI_le w (by omega)))
    refine x_iconst hC dX0_isImage_82 (q := 83) rfl (v := (5)) (by decide) ?_
    refine x_iload hC dX0_isImage_83 (q := 85) rfl rfl ?_
    refine x_imul hC dX0_isImage_85 (q := 86) rfl ?_
    refine x_aloadr hC dX0_isImage_86 (q := 88) rfl rfl ?_
    refine x_iload hC dX0_isImage_88 (q := 90) rfl rfl ?_
    refine x_iald hC dX0_isImage_90 (q := 91) rfl (n := (109, 0)) ((kmix_F _ _ _ rfl).trans (xu_eq _ _ _)) (j := k) rfl (by omega) (by omega) ?_
    rw [hfl2 k (by omega)]
    refine x_iadd hC dX0_isImage_91 (q := 92) rfl ?_
    refine x_sipush hC dX0_isImage_92 (q := 95) rfl (v := (251)) (by decide) ?_
    refine x_irem hC dX0_isImage_95 (q := 96) rfl (by decide) ?_
    rw [show (5 : Int32) * nI ck + nI (kIb τ k) - (5 * nI ck + nI (kIb τ k)) / 251 * 251 = nI ((5 * ck + kIb τ k) % 251) from by
      have := hib k
      have := kLst_lt (kByt τ) (min k (kIml τ))
      rw [show (5 : Int32) = nI 5 from rfl, nI_mu, nI_add, show (251 : Int32) = nI 251 from rfl, nI_mod (by omega) (by decide) (by decide)]]
    refine x_istore hC dX0_isImage_96 (q := 98) rfl rfl ?_
    refine x_iinc hC dX0_isImage_98 (q := 101) rfl rfl (v := nI (k + 1)) (nI_1 k) ?_
    refine x_goto hC dX0_isImage_101 (tgt := 57) rfl ?_
    first
      | exact ih (k + 1, _, ck) ⟨by (try dsimp only); omega, hfl2, by (try dsimp only); rw [hckk, show min (k + 1) (kIml τ) = min k (kIml τ) by omega]⟩ (by (try dsimp only); omega)
      | exact ih (k + 1, _, (5 * ck + kIb τ k) % 251) ⟨by (try dsimp only); omega, hfl2, by
          (try dsimp only)
          rw [hckk, show min (k + 1) (kIml τ) = k + 1 by omega, show min k (kIml τ) = k by omega, show kIb τ k = kByt τ k from if_pos (by omega)]
          rfl⟩ (by (try dsimp only); omega)
  · exact absurd rfl h39
