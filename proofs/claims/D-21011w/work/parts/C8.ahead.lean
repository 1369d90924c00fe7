/-! what the law has seen ahead: the object (120, 0), its arrays (121..131, 0), the tables (132, 0) (134, 0) (136, 0) with their rows (133, c) (135, c) (137, r) -/
def DW (g : xG) (ad : Nat) (I : Nat → Int32) (V : Nat → Nat → Int32) (M : Nat → Nat → Nat → Int32) : Prop := ∃ (ra : Nat → Nat) (rr : Nat → Nat → Nat), g (120, 0) = some (ad, xO 16 [.int (I 0), .int (I 1), .int (I 2), .int (I 3), .int (I 4), .ref (ra 5), .ref (ra 6), .ref (ra 7), .ref (ra 8), .ref (ra 9), .ref (ra 10), .ref (ra 11), .ref (ra 12), .ref (ra 13), .ref (ra 14), .ref (ra 15), .ref (ra 16), .ref (ra 17), .ref (ra 18)]) ∧ (∀ k, 5 ≤ k → k < 10 → g (116 + k, 0) = some (ra k, xAi .int 3 (V k))) ∧ (∀ k, 10 ≤ k → k < 15 → g (116 + k, 0) = some (ra k, xAi .int 6 (V k))) ∧ g (131, 0) = some (ra 15, xAi .boolean 6 (V 15)) ∧ g (132, 0) = some (ra 16, xAr (.array .int) 6 (fun c => some (rr 16 c))) ∧ g (134, 0) = some (ra 17, xAr (.array .int) 6 (fun c => some (rr 17 c))) ∧ g (136, 0) = some (ra 18, xAr (.array .int) 40 (fun c => some (rr 18 c))) ∧ (∀ c, c < 6 → g (133, c) = some (rr 16 c, xAi .int 4 (M 16 c)) ∧ g (135, c) = some (rr 17 c, xAi .int 4 (M 17 c))) ∧ ∀ c, c < 40 → g (137, c) = some (rr 18 c, xAi .int 4 (M 18 c))
theorem DW.ext {g g1 : xG} {ad : Nat} {I : Nat → Int32} {V : Nat → Nat → Int32} {M : Nat → Nat → Nat → Int32} (h : DW g ad I V M) (hx : ∀ n : xN, 120 ≤ n.1 → n.1 ≤ 137 → g1 n = g n) : DW g1 ad I V M := by
  obtain ⟨ra, rr, h1, h2, h3, h4, h5, h6, h7, h8, h9⟩ := h
  exact ⟨ra, rr, (hx _ (by decide) (by decide)).trans h1, fun k a b => (hx _ (by dsimp only; omega) (by dsimp only; omega)).trans (h2 k a b), fun k a b => (hx _ (by dsimp only; omega) (by dsimp only; omega)).trans (h3 k a b), (hx _ (by decide) (by decide)).trans h4, (hx _ (by decide) (by decide)).trans h5, (hx _ (by decide) (by decide)).trans h6, (hx _ (by decide) (by decide)).trans h7, fun c hc => ⟨(hx _ (Nat.le_of_ble_eq_true rfl) (Nat.le_of_ble_eq_true rfl)).trans (h8 c hc).1, (hx _ (Nat.le_of_ble_eq_true rfl) (Nat.le_of_ble_eq_true rfl)).trans (h8 c hc).2⟩, fun c hc => (hx _ (Nat.le_of_ble_eq_true rfl) (Nat.le_of_ble_eq_true rfl)).trans (h9 c hc)⟩
/-- who stands there, by what was seen -/
def kWho (K P : Nat → Int32) (q p : Int32) : Nat → Int32
  | 0 => -1
  | c + 1 => if K c = q ∧ P c = p then nI c else kWho K P q p c

set_option maxHeartbeats 4000000 in
set_option maxRecDepth 100000 in
theorem m_X19_who {l : Launch} {s0 : State} {D : va_G} (h0 : x0 l s0 D) (g : xG) {ad aa : Nat} {α : aA} {I : Nat → Int32} {V : Nat → Nat → Int32} {M : Nat → Nat → Nat → Int32} (hD : DW g ad I V M) (hA : AH g aa α) (hok : aOk α) (q p : Int32) : xMet l s0 D yX19_who cX19_who 6 (some .int) (xr 0 0 0 0) [.ref ad, .ref aa, .int q, .int p] g (fun r g1 => r = some (.int (kWho (V 10) (V 11) q p (aI α 0))) ∧ g1 = g) := by
  obtain ⟨ra, rr, hd0, hd3, hd6, hdb, hdr, hdc, hdk, hdx, hdy⟩ := hD
  obtain ⟨ca, ga, rm, hat, hac, hag, har⟩ := hA
  obtain ⟨hb0, hb1, hb2, hb3, hb4, hb5, hb6, hb7, hb8, hcl, hgr, hro⟩ := id hok
  refine xMet.of h0 (by decide +kernel) rfl ?_
  intro zp ze zs zm za zb zf zc hC hr hnm
  refine x_iconst hC dX19_who_0 (q := 1) rfl (v := (-1)) (by decide) ?_
  refine x_istore hC dX19_who_1 (q := 3) rfl rfl ?_
  refine x_iconst hC dX19_who_3 (q := 4) rfl (v := (0)) (by decide) ?_
  refine x_istore hC dX19_who_4 (q := 6) rfl rfl ?_
  refine x_loop (S := (fun x : Nat => ((0 : Nat), (0 : Nat), g, ([some (.ref ad), some (.ref aa), some (.int q), some (.int p), some (.int (kWho (V 10) (V 11) q p x)), some (.int (nI x))] : xL), ([] : List Value)))) (Inv := fun x => x ≤ aI α 0) (μ := fun x => aI α 0 - x) ?_ 0 (Nat.zero_le _)
  intro c hi ih
  dsimp only at hi ih ⊢
  refine x_iload hC dX19_who_6 (q := 8) rfl rfl ?_
  refine x_aloadr_n hC dX19_who_8 (q := 9) rfl rfl ?_
  refine x_get hC xf_X19_100_0 dX19_who_9 (q := 12) rfl (n := (101, 0)) hat rfl ?_
  refine x_icmp_ge hC dX19_who_12 (q := 15) rfl (tgt := 52) rfl (fun h12 => ?_) (fun h12 => ?_)
  · have hc1 : c = aI α 0 := by
      have := (nI_leI (a := aI α 0) (b := c) (by omega) (by omega)).mp h12
      omega
    subst hc1
    refine x_iload hC dX19_who_52 (q := 54) rfl rfl ?_
    exact x_iret hC hr dX19_who_54 (Nat.le_of_ble_eq_true rfl) (Nat.le_of_ble_eq_true rfl) ⟨rfl, rfl⟩
  have hc1 : c < aI α 0 := Nat.not_le.mp (fun w => h12 (nI_le w (by omega)))
  refine x_aloadr_n hC dX19_who_15 (q := 16) rfl rfl ?_
  refine x_get hC xf_X19_25_16 dX19_who_16 (q := 19) rfl (n := (120, 0)) hd0 rfl ?_
  refine x_iload hC dX19_who_19 (q := 21) rfl rfl ?_
  refine x_iald hC dX19_who_21 (q := 22) rfl (n := (126, 0)) (hd6 10 (by decide) (by decide)) (j := c) rfl (by omega) (by decide) ?_
  refine x_iload_n hC dX19_who_22 (q := 23) rfl rfl ?_
  refine x_icmp_ne hC dX19_who_23 (q := 26) rfl (tgt := 42) rfl (fun h23 => ?_) (fun h23 => ?_)
  · have hw : (if V 10 c = q ∧ V 11 c = p then nI c else kWho (V 10) (V 11) q p c) = kWho (V 10) (V 11) q p c := if_neg (fun w => h23 w.1)
    refine x_iload hC dX19_who_42 (q := 44) rfl rfl ?_
    refine x_istore hC dX19_who_44 (q := 46) rfl rfl ?_
    refine x_iinc hC dX19_who_46 (q := 49) rfl rfl (v := nI (c + 1)) (nI_1 c) ?_
    refine x_goto hC dX19_who_49 (tgt := 6) rfl ?_
    refine x_lveq (lv' := [some (.ref ad), some (.ref aa), some (.int q), some (.int p), some (.int (kWho (V 10) (V 11) q p (c + 1))), some (.int (nI (c + 1)))]) (by rw [show kWho (V 10) (V 11) q p (c + 1) = _ from hw]; rfl) ?_
    exact ih (c + 1) (by (try dsimp only); omega) (by (try dsimp only); omega)
  refine x_aloadr_n hC dX19_who_26 (q := 27) rfl rfl ?_
  refine x_get hC xf_X19_28_16 dX19_who_27 (q := 30) rfl (n := (120, 0)) hd0 rfl ?_
  refine x_iload hC dX19_who_30 (q := 32) rfl rfl ?_
  refine x_iald hC dX19_who_32 (q := 33) rfl (n := (127, 0)) (hd6 11 (by decide) (by decide)) (j := c) rfl (by omega) (by decide) ?_
  refine x_iload_n hC dX19_who_33 (q := 34) rfl rfl ?_
  refine x_icmp_ne hC dX19_who_34 (q := 37) rfl (tgt := 42) rfl (fun h34 => ?_) (fun h34 => ?_)
  · have hw : (if V 10 c = q ∧ V 11 c = p then nI c else kWho (V 10) (V 11) q p c) = kWho (V 10) (V 11) q p c := if_neg (fun w => h34 w.2)
    refine x_iload hC dX19_who_42 (q := 44) rfl rfl ?_
    refine x_istore hC dX19_who_44 (q := 46) rfl rfl ?_
    refine x_iinc hC dX19_who_46 (q := 49) rfl rfl (v := nI (c + 1)) (nI_1 c) ?_
    refine x_goto hC dX19_who_49 (tgt := 6) rfl ?_
    refine x_lveq (lv' := [some (.ref ad), some (.ref aa), some (.int q), some (.int p), some (.int (kWho (V 10) (V 11) q p (c + 1))), some (.int (nI (c + 1)))]) (by rw [show kWho (V 10) (V 11) q p (c + 1) = _ from hw]; rfl) ?_
    exact ih (c + 1) (by (try dsimp only); omega) (by (try dsimp only); omega)
  have hw : (if V 10 c = q ∧ V 11 c = p then nI c else kWho (V 10) (V 11) q p c) = nI c := if_pos ⟨h23, h34⟩
  refine x_iload hC dX19_who_37 (q := 39) rfl rfl ?_
  refine x_goto hC dX19_who_39 (tgt := 44) rfl ?_
  refine x_istore hC dX19_who_44 (q := 46) rfl rfl ?_
  refine x_iinc hC dX19_who_46 (q := 49) rfl rfl (v := nI (c + 1)) (nI_1 c) ?_
  refine x_goto hC dX19_who_49 (tgt := 6) rfl ?_
  refine x_lveq (lv' := [some (.ref ad), some (.ref aa), some (.int q), some (.int p), some (.int (kWho (V 10) (V 11) q p (c + 1))), some (.int (nI (c + 1)))]) (by rw [show kWho (V 10) (V 11) q p (c + 1) = _ from hw]; rfl) ?_
  exact ih (c + 1) (by (try dsimp only); omega) (by (try dsimp only); omega)

theorem kWho_at {σ : KS} {α : aA} (hok : aOk α) (hl : LT σ α) (hp : KPl σ) {K P : Nat → Int32} (hK : ∀ c, c < aI α 0 → K c = kKil σ c ∧ P c = iI (kI σ 33 c)) {q p : Nat} (hq : q < aI α 1) (hp1 : p < 100) : ∀ c, c ≤ aI α 0 → kWho K P (nI q) (nI p) c = aAt σ q p c
  | 0, _ => (aAt_0 σ q p).symm
  | c + 1, hc => by
    have h1 := hl.on hp hok (c := c) (by omega) hq hp1
    rw [← (hK c (by omega)).1, ← (hK c (by omega)).2] at h1
    show (if K c = nI q ∧ P c = nI p then nI c else kWho K P (nI q) (nI p) c) = _
    by_cases h : kO σ 1 q p = some c
    · rw [if_pos (h1.mpr h), (aAt_s h).2]
    · rw [if_neg (fun w => h (h1.mp w)), kWho_at hok hl hp hK hq hp1 c (by omega), aAt_n h]
