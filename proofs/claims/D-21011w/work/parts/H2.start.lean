/-! THE LAW's ENTRY: the town is made and read; the start -/
theorem blt40 {n : Nat} (h : 40 ≤ n) : Nat.blt n 40 = false := Bool.eq_false_iff.mpr (fun q => by have := Nat.le_of_ble_eq_true q; omega)
theorem kmix_low (σ : KS) (gF : xG) (n : xN) (x : Option (Nat × xE)) (h : Nat.blt n.1 40 = true) : kmix σ (xu gF n x) = kmix σ gF := by
  funext k
  unfold kmix
  split
  · rfl
  · next e => rw [xu_ne (fun q => by rw [q, h] at e; cases e)]
theorem rdP_f {n : xN} (h1 : ¬ (60 ≤ n.1 ∧ n.1 ≤ 62)) (h2 : ¬ (70 ≤ n.1 ∧ n.1 ≤ 81)) (h3 : n.1 ≠ 200) : rdP n = false := by
  cases hb : rdP n with
  | false => rfl
  | true =>
    unfold rdP tokP at hb
    simp only [Bool.or_eq_true, Bool.and_eq_true] at hb
    rcases hb with (h | h | h) | h | h
    · have := Nat.eq_of_beq_eq_true h; omega
    · have := Nat.eq_of_beq_eq_true h; omega
    · have := Nat.eq_of_beq_eq_true h; omega
    · have a := Nat.le_of_ble_eq_true h.1
      have b := Nat.le_of_ble_eq_true h.2
      omega
    · have := Nat.eq_of_beq_eq_true h; omega
theorem text_sub {σ : KS} {gA : xG} {X Y : Option (Nat × xE)} {a v cp : Nat} {f : Nat → Int32} {w : List Nat} (h105 : gA (105, 0) = none) (h106 : gA (106, 0) = none) : ∀ (n : xN) (x : Nat × xE), kmix σ (xu (xu gA (112, 0) X) (111, 0) Y) n = some x → (xu (xu (SB (kmix σ gA) (105, 0) (106, 0) a v cp f w) (112, 0) X) (111, 0) Y) n = some x := by
  intro n x h
  by_cases e1 : n = (111, 0)
  · subst e1
    rw [kmix_F _ _ _ rfl, xu_eq] at h
    rw [xu_eq]; exact h
  rw [xu_ne e1]
  by_cases e2 : n = (112, 0)
  · subst e2
    rw [kmix_F _ _ _ rfl, xu_ne e1, xu_eq] at h
    rw [xu_eq]; exact h
  rw [xu_ne e2]
  have e : kmix σ (xu (xu gA (112, 0) X) (111, 0) Y) n = kmix σ gA n := by
    unfold kmix
    split
    · rfl
    · rw [xu_ne e1, xu_ne e2]
  rw [e] at h
  unfold SB
  rw [if_neg (fun q => by subst q; rw [kmix_F _ _ _ rfl, h105] at h; cases h), if_neg (fun q => by subst q; rw [kmix_F _ _ _ rfl, h106] at h; cases h)]
  exact h
theorem emp_K {A : Nat → Nat} {d0 N : Nat} {b : Nat → Int} : KEm (kTa (K00 A d0) b N) d0 := by
  refine ⟨fun s h1 h2 => ?_, fun s h1 h2 => ?_, rfl, rfl, rfl⟩
  · have hs : s = 60 ∨ s = 61 ∨ s = 62 ∨ s = 63 ∨ s = 64 ∨ s = 65 := by omega
    rcases hs with rfl | rfl | rfl | rfl | rfl | rfl <;> rfl
  · have hs : s = 71 ∨ s = 72 ∨ s = 73 ∨ s = 74 ∨ s = 75 := by omega
    rcases hs with rfl | rfl | rfl | rfl | rfl <;> rfl
def tp0 : Nat → Int32 := upd (upd (upd (upd (upd (upd (fun _ => 0) 0 (-1)) 1 (-1)) 2 (-1)) 3 (-1)) 4 (-1)) 5 (-1)
theorem tp0_lt {d : Nat} (h : d < 6) : tp0 d = -1 := by
  have : ∀ d, d < 6 → tp0 d = -1 := by decide +kernel
  exact this d h
/-- the default array of an ArrayList -/
theorem c_e0 {l : Launch} {s0 : State} {D : va_G} (h : x0 l s0 D) : ∃ d0 : Nat, va_Z "java/util/ArrayList" "DEFAULTCAPACITY_EMPTY_ELEMENTDATA" "[Ljava/lang/Object;" (.ref d0) (xA0 s0) s0 s0.heap ∧ d0 < s0.heap.size ∧ xats s0 d0 (xAr (.object "java/lang/Object") 0 (fun _ => none)) := by
  obtain ⟨b0, h1, h2⟩ := h.flat
  obtain ⟨t, ht, hT⟩ := va_Tof (N := 0) (f := fun _ => .null) (A := xA0 s0) (by decide) (h2 (.arrayOf (.static "java/util/ArrayList" "DEFAULTCAPACITY_EMPTY_ELEMENTDATA" "[Ljava/lang/Object;") (.object "java/lang/Object")) (by decide +kernel)) (va_eqt (h2 (.eq (.length (.static "java/util/ArrayList" "DEFAULTCAPACITY_EMPTY_ELEMENTDATA" "[Ljava/lang/Object;")) (.int 0)) (by decide +kernel))) (fun j hj => absurd hj (Nat.not_lt_zero j)) xA0_lt
  exact ⟨t, va_Zof (h1 _ q145) (h1 _ (lw_all_tbl q83)) ht xA0_lt, Nat.lt_of_not_le hT.out, hT⟩

set_option maxHeartbeats 4000000 in
set_option maxRecDepth 100000 in
theorem law_start {p : Program} {l : Launch} {e : Env} {s : State} {m : MethodId} {below : List Frame} {meth : Method} {c0 : Code} {b : Nat} {D : va_G} (h0 : x0 l s D) (hC : xC p l s s D m #[Value.ref b] meth c0 RX0 cL_law) (hr : meth.sig.returnType = ret) (hlk : meth.locks = false) {g0 : xG} {A V B : Nat → Nat} {d0 L : Nat} {xs : Nat → Int32} (hS : KS0 s A V B) (hK : KG g0 A V B) (hz : xE0 s g0 d0) (hL : L ≤ 213) (hscr : g0 (1004, 0) = some (b, xAi .int L xs)) (hfree : ∀ n : xN, (n.1 < 1000 ∨ 2000 ≤ n.1) → g0 n = none) : XW p l e RL s m #[Value.ref b] below meth c0 s D (lw_Z below #[Value.ref b] s) (0) (0) (g0) 0 ([some (.ref b), none, none, none, none, none, none] : xL) ([] : List Value) := by
  refine x_aloadr_n hC dL_law_0 (q := 1) rfl rfl ?_
  refine x_callS hC xv_X0_327 dL_law_1 (q := 4) rfl rfl (m_X0_stirred h0 g0 (ns := (1004, 0)) (sa := b) (N := L) (f := xs) hscr (by omega) (hfree _ (by decide))) rfl (Nat.le_of_ble_eq_true rfl) ⟨(by (try dsimp only); omega), (by (try dsimp only); omega)⟩ ⟨(by (try dsimp only); omega), (by (try dsimp only); omega)⟩ (fun v g1 hp => ?_)
  obtain ⟨sa, fs, rfl, hg1⟩ := hp
  subst hg1
  refine x_astorer_n hC dL_law_4 (q := 5) rfl rfl ?_
  refine x_new hC (fs := [.int 0, .int 0, .int 0, .int 0, .int 0, .int 0, .int 0, .int 0, .int 0, .null, .null, .null]) (101, 0) xc_0 q1102 q1103 q77 dL_law_5 (q := 8) rfl rfl ((xu_ne (n_fst rfl)).trans (hfree _ (by decide))) (fun j hj => by match j, hj with | 0, _ => rfl | 1, _ => rfl | 2, _ => rfl | 3, _ => rfl | 4, _ => rfl | 5, _ => rfl | 6, _ => rfl | 7, _ => rfl | 8, _ => rfl | 9, _ => rfl | 10, _ => rfl | 11, _ => rfl | j + 12, h => exact absurd h (by omega)) (by (try dsimp only); omega) (by (try dsimp only); omega) (fun a_5 => ?_)
  refine x_dup hC dL_law_8 (q := 9) rfl rfl ?_
  refine x_aloadr_n hC dL_law_9 (q := 10) rfl rfl ?_
  refine x_callI hC xv_X0_331 dL_law_10 (q := 13) rfl rfl (m_X1_init h0 (xu (xu g0 (100, 0) (some (sa, xAi .int 400 fs))) (101, 0) (some (a_5, xO 0 [.int 0, .int 0, .int 0, .int 0, .int 0, .int 0, .int 0, .int 0, .int 0, .null, .null, .null]))) (aa := a_5) (sa := sa) (f := fs) hS ((hK.up rfl _).up rfl _) ((xu_ne (n_fst rfl)).trans (xu_eq _ _ _)) (xu_eq _ _ _) ((xu_ne (n_fst rfl)).trans ((xu_ne (n_fst rfl)).trans (hfree _ (by decide)))) ((xu_ne (n_fst rfl)).trans ((xu_ne (n_fst rfl)).trans (hfree _ (by decide)))) ((xu_ne (n_fst rfl)).trans ((xu_ne (n_fst rfl)).trans (hfree _ (by decide))))) rfl (Nat.le_of_ble_eq_true rfl) ⟨(by (try dsimp only); omega), (by (try dsimp only); omega)⟩ ⟨(by (try dsimp only); omega), (by (try dsimp only); omega)⟩ (fun v g1 hp => ?_)
  obtain ⟨ca, ga, ra, rfl, hg1⟩ := hp
  subst hg1
  obtain ⟨α, hα⟩ : ∃ x, x = aOf fs := ⟨_, rfl⟩
  rw [← hα]
  have hok : aOk α := by rw [hα]; exact aOf_ok fs
  clear hα
  have hlen := tkA_len hok
  obtain ⟨gA, hgA⟩ : ∃ x, x = AX (xu (xu g0 (100, 0) (some (sa, xAi .int 400 fs))) (101, 0) (some (a_5, xO 0 [.int 0, .int 0, .int 0, .int 0, .int 0, .int 0, .int 0, .int 0, .int 0, .null, .null, .null]))) a_5 ca ga ra (aFs α ca ga ra) (aF (aCl α) (aI α 0)) (aF (aGr α) (aI α 0)) (aF (aRo α) (aI α 1)) := ⟨_, rfl⟩
  refine x_geq hgA.symm ?_
  have hAA : AH gA a_5 α := by rw [hgA]; exact AX.ah _ _ _ _ _ _
  have hoA : ∀ n : xN, (n.1 < 100 ∨ 105 ≤ n.1 ∧ n.1 < 1000 ∨ 2000 ≤ n.1) → gA n = none := fun n hn => by
    rw [hgA]
    unfold AX
    rw [if_neg (fun e => by subst e; exact absurd hn (by decide)), if_neg (fun e => by subst e; exact absurd hn (by decide)), if_neg (fun e => by subst e; exact absurd hn (by decide)), if_neg (fun e => by subst e; exact absurd hn (by decide)), xu_ne (fun e => by subst e; exact absurd hn (by decide)), xu_ne (fun e => by subst e; exact absurd hn (by decide))]
    exact hfree n (by omega)
  have hsA : gA (100, 0) = some (sa, xAi .int 400 fs) := by rw [hgA]; rfl
  have hGA : ∀ n : xN, 1000 ≤ n.1 → gA n = g0 n := fun n hn => by
    rw [hgA]
    unfold AX
    rw [if_neg (fun e => by subst e; exact absurd hn (by decide)), if_neg (fun e => by subst e; exact absurd hn (by decide)), if_neg (fun e => by subst e; exact absurd hn (by decide)), if_neg (fun e => by subst e; exact absurd hn (by decide)), xu_ne (fun e => by subst e; exact absurd hn (by decide)), xu_ne (fun e => by subst e; exact absurd hn (by decide))]
  have hKA : KG gA A V B := hK.ext hGA
  have hzA : xE0 s gA d0 := ⟨hz.1, by obtain ⟨f, e⟩ := hz.2; exact ⟨f, (hGA _ (by decide)).trans e⟩⟩
  clear hgA
  obtain ⟨ca1, ga1, ra1, hat1, -⟩ := id hAA
  have hat : ∀ ρ : KS, kmix ρ gA (101, 0) = some (a_5, xO 0 (aFs α ca1 ga1 ra1)) := fun ρ => (kmix_F ρ gA _ rfl).trans hat1
  refine x_astorer_n hC dL_law_13 (q := 14) rfl rfl ?_
  refine x_new hC (fs := [.null, .int 0, .null, .null, .int 0, .int 0, .int 0, .null, .null, .null, .int 0, .int 0, .null, .long 0, .null, .int 0]) (0, 0) xc_1 q118 q119 q79 dL_law_14 (q := 17) rfl rfl (hoA _ (by decide)) (fun j hj => by match j, hj with | 0, _ => rfl | 1, _ => rfl | 2, _ => rfl | 3, _ => rfl | 4, _ => rfl | 5, _ => rfl | 6, _ => rfl | 7, _ => rfl | 8, _ => rfl | 9, _ => rfl | 10, _ => rfl | 11, _ => rfl | 12, _ => rfl | 13, _ => rfl | 14, _ => rfl | 15, _ => rfl | j + 16, h => exact absurd h (by omega)) (by (try dsimp only); omega) (by (try dsimp only); omega) (fun a_14 => ?_)
  refine x_dup hC dL_law_17 (q := 18) rfl rfl ?_
  refine x_callI hC xv_X0_334 dL_law_18 (q := 21) rfl rfl (m_X2_init h0 _ (kb := a_14) (d0 := d0) (xu_eq _ _ _) (fun n h1 h2 => (xu_ne h2).trans (hoA n (Or.inl (by have := Nat.le_of_ble_eq_true h1; omega)))) (hzA.up rfl _)) rfl (Nat.le_of_ble_eq_true rfl) ⟨(by (try dsimp only); omega), (by (try dsimp only); omega)⟩ ⟨(by (try dsimp only); omega), (by (try dsimp only); omega)⟩ (fun v g1 hp => ?_)
  obtain ⟨AA, rfl, hAk, hg1⟩ := hp
  subst hg1
  refine x_geq (kmix_low _ gA (0, 0) _ rfl) ?_
  rw [← hAk]
  obtain ⟨σ, hσ⟩ : ∃ x, x = K00 AA d0 := ⟨_, rfl⟩
  rw [← hσ, show AA 0 = kA σ 0 0 from by rw [hσ]; rfl]
  have ht0 : kI σ 0 0 = 0 := by rw [hσ]; rfl
  refine x_astorer_n hC dL_law_21 (q := 22) rfl rfl ?_
  refine x_aloadr_n hC dL_law_22 (q := 23) rfl rfl ?_
  refine x_aloadr_n hC dL_law_23 (q := 24) rfl rfl ?_
  refine x_callV hC xv_X0_335 dL_law_24 (q := 27) rfl rfl (m_X1_text h0 (kmix σ gA) (aa := a_5) (hAA.km σ) hok hS (hKA.ext (fun n hn => kmix_F σ gA n (blt40 (by omega)))) (fun k h1 h2 => (kmix_F σ gA (k, 0) (blt40 (by (try dsimp only); omega))).trans (hoA (k, 0) (by (try dsimp only); omega)))) (nn := (101, 0)) (hat _) rfl rfl (Nat.le_of_ble_eq_true rfl) ⟨(by (try dsimp only); omega), (by (try dsimp only); omega)⟩ ⟨(by (try dsimp only); omega), (by (try dsimp only); omega)⟩ (fun v g1 hp => ?_)
  obtain ⟨sr, sd, av, vv, cp, ff, rfl, hg1⟩ := hp
  subst hg1
  refine x_sub (g' := kmix σ (xu (xu gA (112, 0) (some (sd, xAi .byte (aTx α).length (sL (aTx α))))) (111, 0) (some (sr, xO 23 [.ref sd, .int 0, .int 0, .int 0])))) (text_sub (hoA _ (by decide)) (hoA _ (by decide))) ?_
  refine x_geq (g' := kmix (kTa σ (kV σ 0 0) 0) (xu (xu gA (112, 0) (some (sd, xAi .byte (aTx α).length (sL (aTx α))))) (111, 0) (some (sr, xO 23 [.ref sd, .int 0, .int 0, .int 0])))) (by rw [kTa_z ht0]) ?_
  refine x_callS hC xv_X0_339 dL_law_27 (q := 30) rfl rfl (m_X0_feed h0 σ (xu (xu gA (112, 0) (some (sd, xAi .byte (aTx α).length (sL (aTx α))))) (111, 0) (some (sr, xO 23 [.ref sd, .int 0, .int 0, .int 0]))) (kV σ 0 0) (sa := sr) (va := sd) (N := (aTx α).length) (hr0 := [.int 0, .int 0]) (f := sL (aTx α)) (xu_eq _ _ _) ((xu_ne (n_fst rfl)).trans (xu_eq _ _ _)) ((xu_ne (n_fst rfl)).trans ((xu_ne (n_fst rfl)).trans (hoA _ (by decide)))) ((xu_ne (n_fst rfl)).trans ((xu_ne (n_fst rfl)).trans (hoA _ (by decide)))) (by have := aTx_l hok; omega)) rfl (Nat.le_of_ble_eq_true rfl) ⟨(by (try dsimp only); omega), (by (try dsimp only); omega)⟩ ⟨(by (try dsimp only); omega), (by (try dsimp only); omega)⟩ (fun v g1 hp => ?_)
  obtain ⟨rfl, bb, hbb, hg1⟩ := hp
  subst hg1
  refine x_sub (g' := kmix (kTa σ bb (aTx α).length) gA) (fun n x h => kmix_sub (fun k y hk => xu_sub ((xu_ne (n_fst rfl)).trans (hoA _ (by decide))) k y (xu_sub (hoA _ (by decide)) k y hk)) n x h) ?_
  obtain ⟨τ, hτ⟩ : ∃ x, x = kTa σ bb (aTx α).length := ⟨_, rfl⟩
  rw [← hτ, show kA σ 0 0 = kA τ 0 0 from by rw [hτ]; rfl]
  rw [hσ] at hτ
  refine x_if_eq hC dL_law_30 (q := 33) rfl (tgt := 48) rfl (fun h30 => ?_) (fun h30 => ?_)
  · exact absurd h30 (by decide)
  refine x_aloadr_n hC dL_law_33 (q := 34) rfl rfl ?_
  refine x_callVW hC xv_X0_342 dL_law_34 (q := 37) rfl rfl (m_X2_town h0 τ gA (n := aNs α) (tx := aTx α) (tk := tkA α) (X1 := (τA α, aFo α)) hS (hKA.ext (fun n hn => kmix_F τ gA n (blt40 (by omega)))) ⟨hzA.1, by obtain ⟨f, e⟩ := hzA.2; exact ⟨f, (kmix_F _ _ _ rfl).trans e⟩⟩ (by rw [hτ]; exact emp_K) (hoA _ (by decide)) ⟨((kmix_F _ _ (63, 0) rfl).trans (hoA _ (by decide))), fun n h1 h2 => (kmix_F τ gA n (blt40 (by omega))).trans (hoA n (by omega)), fun i => (kmix_F τ gA (200, i) rfl).trans (hoA (200, i) (by omega))⟩ (by rw [hτ]; rfl) (fun j hj => by rw [hτ]; show iI (bb j) = _; rw [hbb j hj]; exact sB_at (sB_sL _) (aTx_A hok) hj) (by have := aTx_l hok; omega) (aTx_A hok) (lex_all hok) (sRun_all hok) (aNs_lt hok)) (nn := (0, 0)) rfl rfl rfl (Nat.le_of_ble_eq_true rfl) ⟨(by (try dsimp only); omega), (by (try dsimp only); omega)⟩ ⟨(by (try dsimp only); omega), (by (try dsimp only); omega)⟩ (fun v g1 hp => ?_)
  obtain ⟨rfl, σ1, gB, hKT, hg1⟩ := hp
  subst hg1
  refine x_widen (k0 := 6690) (n0 := 1324390) (by (try dsimp only); omega) (by (try dsimp only); omega) ?_
  obtain ⟨hLS, hLB, e3, ev3, e00⟩ := town_L hτ hKT hok
  obtain ⟨-, -, -, -, -, -, -, -, -, -, -, -, -, -, -, -, -, -, -, hq1, hq2⟩ := id hKT
  rw [← e00]
  have hF1 : ∀ n : xN, 82 ≤ n.1 → n.1 ≠ 200 → gB n = gA n := fun n h1 h2 => hq1 n (by omega) h2 (rdP_f (by omega) (by omega) h2)
  have hA1 : AH gB a_5 α := hAA.ext (fun n h1 h2 => hF1 n (by omega) (by omega))
  have hs1 : gB (100, 0) = some (sa, xAi .int 400 fs) := (hF1 _ (by decide) (by decide)).trans hsA
  have hB1 : ∀ n : xN, 120 ≤ n.1 → n.1 ≤ 141 → gB n = none := fun n h1 h2 => (hF1 n (by omega) (by omega)).trans (hoA n (by omega))
  have hL01 : gB (2000, 0) = none := (hF1 _ (by decide) (by decide)).trans (hoA _ (by decide))
  have h1091 : gB (109, 0) = none := (hF1 _ (by decide) (by decide)).trans (hoA _ (by decide))
  have h1101 : gB (110, 0) = none := (hF1 _ (by decide) (by decide)).trans (hoA _ (by decide))
  have h1421 : gB (142, 0) = none := (hF1 _ (by decide) (by decide)).trans (hoA _ (by decide))
  have hFo1 : KFo s gB d0 := ⟨⟨hzA.1, by obtain ⟨f, e⟩ := hzA.2; exact ⟨f, (hF1 _ (by decide) (by decide)).trans e⟩⟩, fun n h1 h2 => by
    by_cases e1 : 60 ≤ n.1 ∧ n.1 ≤ 62 ∨ 70 ≤ n.1 ∧ n.1 ≤ 81
    · exact hq2 n e1
    · exact (hq1 n (by omega) (by omega) (rdP_f (fun w => e1 (Or.inl w)) (fun w => e1 (Or.inr w)) (by omega))).trans (hoA n (by omega))⟩
  refine x_if_lt hC dL_law_37 (q := 40) rfl (tgt := 48) rfl (fun h37 => ?_) (fun h37 => ?_)
  · exact absurd (nI_le (a := 0) (b := aNs α) (Nat.zero_le _) (by have := aNs_lt hok; omega)) (Int32.not_le.mpr (by rw [← tst_A α]; exact h37))
  refine x_aloadr_n hC dL_law_40 (q := 41) rfl rfl ?_
  refine x_aloadr_n hC dL_law_41 (q := 42) rfl rfl ?_
  refine x_callS hC xv_X0_345 dL_law_42 (q := 45) rfl rfl (m_X0_begins h0 σ1 gB hA1 hok hLS.1.2.1.1 hLS.1.2.2.1 hLS.2.1 hLB) rfl (Nat.le_of_ble_eq_true rfl) ⟨(by (try dsimp only); omega), (by (try dsimp only); omega)⟩ ⟨(by (try dsimp only); omega), (by (try dsimp only); omega)⟩ (fun v g1 hp => ?_)
  obtain ⟨rfl, hg1⟩ := hp
  replace hg1 := hg1.symm
  subst hg1
  refine x_if_ne hC dL_law_45 (q := 48) rfl (tgt := 50) rfl (fun h45 => ?_) (fun h45 => ?_)
  · have hx45 := h45
    refine x_bipush hC dL_law_50 (q := 52) rfl (v := (6)) (by decide) ?_
    refine x_newa hC (at0 := .int) (N := 6) (x := (6, .inl (fun _ => 0))) (142, 0) q159 dL_law_52 (q := 54) rfl rfl ((kmix_F _ _ _ rfl).trans h1421) rfl (by decide) (fun _ => rfl) (by (try dsimp only); omega) (by (try dsimp only); omega) (fun a_52 => ?_)
    refine x_dup hC dL_law_54 (q := 55) rfl rfl ?_
    refine x_iconst hC dL_law_55 (q := 56) rfl (v := (0)) (by decide) ?_
    refine x_iconst hC dL_law_56 (q := 57) rfl (v := (-1)) (by decide) ?_
    refine x_iast hC dL_law_57 (q := 58) rfl (n := (142, 0)) rfl (xu_eq _ _ _) (j := 0) rfl (by decide) (by decide) ?_
    refine x_dup hC dL_law_58 (q := 59) rfl rfl ?_
    refine x_iconst hC dL_law_59 (q := 60) rfl (v := (1)) (by decide) ?_
    refine x_iconst hC dL_law_60 (q := 61) rfl (v := (-1)) (by decide) ?_
    refine x_iast hC dL_law_61 (q := 62) rfl (n := (142, 0)) rfl (xu_eq _ _ _) (j := 1) rfl (by decide) (by decide) ?_
    refine x_dup hC dL_law_62 (q := 63) rfl rfl ?_
    refine x_iconst hC dL_law_63 (q := 64) rfl (v := (2)) (by decide) ?_
    refine x_iconst hC dL_law_64 (q := 65) rfl (v := (-1)) (by decide) ?_
    refine x_iast hC dL_law_65 (q := 66) rfl (n := (142, 0)) rfl (xu_eq _ _ _) (j := 2) rfl (by decide) (by decide) ?_
    refine x_dup hC dL_law_66 (q := 67) rfl rfl ?_
    refine x_iconst hC dL_law_67 (q := 68) rfl (v := (3)) (by decide) ?_
    refine x_iconst hC dL_law_68 (q := 69) rfl (v := (-1)) (by decide) ?_
    refine x_iast hC dL_law_69 (q := 70) rfl (n := (142, 0)) rfl (xu_eq _ _ _) (j := 3) rfl (by decide) (by decide) ?_
    refine x_dup hC dL_law_70 (q := 71) rfl rfl ?_
    refine x_iconst hC dL_law_71 (q := 72) rfl (v := (4)) (by decide) ?_
    refine x_iconst hC dL_law_72 (q := 73) rfl (v := (-1)) (by decide) ?_
    refine x_iast hC dL_law_73 (q := 74) rfl (n := (142, 0)) rfl (xu_eq _ _ _) (j := 4) rfl (by decide) (by decide) ?_
    refine x_dup hC dL_law_74 (q := 75) rfl rfl ?_
    refine x_iconst hC dL_law_75 (q := 76) rfl (v := (5)) (by decide) ?_
    refine x_iconst hC dL_law_76 (q := 77) rfl (v := (-1)) (by decide) ?_
    refine x_iast hC dL_law_77 (q := 78) rfl (n := (142, 0)) rfl (xu_eq _ _ _) (j := 5) rfl (by decide) (by decide) ?_
    refine x_astorer hC dL_law_78 (q := 80) rfl rfl ?_
    refine x_iconst hC dL_law_80 (q := 81) rfl (v := (0)) (by decide) ?_
    refine x_istore hC dL_law_81 (q := 83) rfl rfl ?_
    refine x_geq (g' := kmix σ1 (xu gB (142, 0) (some (a_52, xAi .int 6 tp0)))) (by rw [xu_xu, xu_xu, xu_xu, xu_xu, xu_xu, xu_xu, kmix_xuF _ _ _ _ rfl]; rfl) ?_
    refine x_widen (k0 := 6700) (n0 := 1324400) (by (try dsimp only); omega) (by (try dsimp only); omega) ?_
    exact law_loop h0 hC hr hlk σ1 hA1 hok hs1 hB1 hL01 h1091 h1101 hFo1 h1421 hLS e3 ev3 tp0 (fun d hd h => by rw [tp0_lt (by have := hok.1; omega)] at h; exact absurd h (by decide)) none
  · exact absurd h45 (by decide)
