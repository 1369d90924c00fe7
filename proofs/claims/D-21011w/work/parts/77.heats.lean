/-! allHeats, seen -/
/-- heats by which it is good, as bits: of the first -/
def kAH (b : Nat → Bool) : Nat → Int32
  | 0 => 0
  | h + 1 => if b h = true then kAH b h ||| ((1 : Int32) <<< (nI h &&& 31)) else kAH b h

set_option maxHeartbeats 4000000 in
set_option maxRecDepth 100000 in
theorem m_X2_allHeats {l : Launch} {s0 : State} {D : va_G} (h0 : x0 l s0 D) (σ : KS) (gF : xG) (f : aEnv) {sh : Jvm.Lambda.Shape} {by0 : ByteArray} {fr lo aL : Nat} {b : Nat → Bool} (hsh : (⟨"KilnBench$Good", "is", "(I)Z"⟩ : MethodName) = ⟨sh.iface, sh.name, sh.sam.toString⟩) (hL : ∀ (h : Nat) (_ : h < 21) (f2 : aEnv), xLamb l s0 D sh by0 2 .boolean (xr fr 0 0 lo) aL [.int (nI h)] (kmix (kT σ f2) gF) (fun r g1 => ∃ f3, r = some (.int (if b h = true then 1 else 0)) ∧ g1 = kmix (kT σ f3) gF)) : xMet l s0 D yX2_allHeats cX2_allHeats 3 (some .int) (xr (fr + 2) 0 0 (lo + 50)) [.ref aL] (kmix (kT σ f) gF) (fun r g1 => ∃ f1, r = some (.int (kAH b 21)) ∧ g1 = kmix (kT σ f1) gF) := by
  refine xMet.of h0 (by decide +kernel) rfl ?_
  intro p e s m args below meth c hC hr hnm
  refine x_iconst hC dX2_allHeats_0 (q := 1) rfl (v := (0)) (by decide) ?_
  refine x_istore_n hC dX2_allHeats_1 (q := 2) rfl rfl ?_
  refine x_iconst hC dX2_allHeats_2 (q := 3) rfl (v := (0)) (by decide) ?_
  refine x_istore_n hC dX2_allHeats_3 (q := 4) rfl rfl ?_
  refine x_loop (S := (fun i : Nat × aEnv => ((0 : Nat), (0 : Nat), kmix (kT σ i.2) gF, ([some (.ref aL), some (.int (kAH b i.1)), some (.int (nI i.1))] : xL), ([] : List Value)))) (Inv := fun i => i.1 ≤ 21) (μ := fun i => 21 - i.1) ?_ (0, f) (Nat.zero_le _)
  intro ⟨h1, f2⟩ hi ih
  dsimp only at hi ih ⊢
  refine x_iload_n hC dX2_allHeats_4 (q := 5) rfl rfl ?_
  refine x_bipush hC dX2_allHeats_5 (q := 7) rfl (v := (20)) (by decide) ?_
  refine x_icmp_gt hC dX2_allHeats_7 (q := 10) rfl (tgt := 32) rfl (fun h7 => ?_) (fun h7 => ?_)
  · have hh3 : h1 = 21 := by
      have h2 : nI 20 < nI h1 := h7
      have := (nI_ltI (by decide) (by omega)).mp h2
      omega
    refine x_iload_n hC dX2_allHeats_32 (q := 33) rfl rfl ?_
    exact x_iret hC hr dX2_allHeats_33 (Nat.le_of_ble_eq_true rfl) (Nat.le_of_ble_eq_true rfl) ⟨f2, by rw [hh3], rfl⟩
  have hh2 : h1 < 21 := by
    have h2 : ¬ nI 20 < nI h1 := h7
    rw [nI_ltI (by decide) (by omega)] at h2
    omega
  refine x_aloadr_n hC dX2_allHeats_10 (q := 11) rfl rfl ?_
  refine x_iload_n hC dX2_allHeats_11 (q := 12) rfl rfl ?_
  refine x_callM hC (hL h1 hh2 f2) q1590 q1592 q1591 hsh (by decide) (show (parseMethodDescriptor "(I)Z").map (fun d => d.parameters.length) = some 1 by decide +kernel) (q := 17) dX2_allHeats_12 rfl (As := [.int (nI h1)]) (rest := []) rfl (by decide) rfl ⟨(show fr + 1 ≤ fr + 2 by omega), (show 8 + (2 + 11) + lo ≤ lo + 50 by omega)⟩ ⟨(show 0 + 0 ≤ 0 by omega), (show 0 + 0 ≤ 0 by omega)⟩ (fun v g1 hp => ?_)
  obtain ⟨f3, rfl, hg1⟩ := hp
  replace hg1 := hg1.symm
  subst hg1
  refine x_if_eq hC dX2_allHeats_17 (q := 20) rfl (tgt := 26) rfl (fun h17 => ?_) (fun h17 => ?_)
  · refine x_iinc hC dX2_allHeats_26 (q := 29) rfl rfl (v := nI (h1 + 1)) (nI_1 h1) ?_
    refine x_goto hC dX2_allHeats_29 (tgt := 4) rfl ?_
    first
      | (rw [show kAH b h1 ||| ((1 : Int32) <<< (nI h1 &&& 31)) = kAH b (h1 + 1) from (if_pos hb).symm]
         exact ih (h1 + 1, f3) (by dsimp only; omega) (by dsimp only; omega))
      | (rw [show kAH b h1 = kAH b (h1 + 1) from (if_neg (fun q => by rw [q] at h17; exact absurd h17 (by decide))).symm]
         exact ih (h1 + 1, f3) (by dsimp only; omega) (by dsimp only; omega))
  have hb : b h1 = true := by
    cases hq : b h1 with
    | true => rfl
    | false => rw [hq] at h17; exact absurd rfl h17
  refine x_iload_n hC dX2_allHeats_20 (q := 21) rfl rfl ?_
  refine x_iconst hC dX2_allHeats_21 (q := 22) rfl (v := (1)) (by decide) ?_
  refine x_iload_n hC dX2_allHeats_22 (q := 23) rfl rfl ?_
  refine x_ishl hC dX2_allHeats_23 (q := 24) rfl ?_
  refine x_ior hC dX2_allHeats_24 (q := 25) rfl ?_
  refine x_istore_n hC dX2_allHeats_25 (q := 26) rfl rfl ?_
  refine x_iinc hC dX2_allHeats_26 (q := 29) rfl rfl (v := nI (h1 + 1)) (nI_1 h1) ?_
  refine x_goto hC dX2_allHeats_29 (tgt := 4) rfl ?_
  first
    | (rw [show kAH b h1 ||| ((1 : Int32) <<< (nI h1 &&& 31)) = kAH b (h1 + 1) from (if_pos hb).symm]
       exact ih (h1 + 1, f3) (by dsimp only; omega) (by dsimp only; omega))
    | (rw [show kAH b h1 = kAH b (h1 + 1) from (if_neg (fun q => by rw [q] at h17; exact absurd h17 (by decide))).symm]
       exact ih (h1 + 1, f3) (by dsimp only; omega) (by dsimp only; omega))

set_option maxHeartbeats 4000000 in
set_option maxRecDepth 100000 in
theorem m_X2_lambda_seen_7 {l : Launch} {s0 : State} {D : va_G} (h0 : x0 l s0 D) (σ : KS) (gF : xG) (f : aEnv) {x x1 : Int32} (hA : xMet l s0 D yX2_isAsSeen cX2_isAsSeen 4 (some .boolean) (xr 38 0 0 1560) [.ref (kA σ 0 0), .int x] (kmix (kT σ f) gF) (fun r g1 => ∃ f1, r = some (.int x1) ∧ g1 = kmix (kT σ f1) gF)) (hx : x1 = 0 ∨ x1 = 1) : xMet l s0 D yX2_lambda_seen_7 cX2_lambda_seen_7 2 (some .boolean) (xr 40 0 0 1620) [.ref (kA σ 0 0), .int x] (kmix (kT σ f) gF) (fun r g1 => ∃ f1, r = some (.int x1) ∧ g1 = kmix (kT σ f1) gF) := by
  refine xMet.of h0 (by decide +kernel) rfl ?_
  intro p e s m args below meth c hC hr hnm
  refine x_aloadr_n hC dX2_lambda_seen_7_0 (q := 1) rfl rfl ?_
  refine x_iload_n hC dX2_lambda_seen_7_1 (q := 2) rfl rfl ?_
  refine x_callV hC xv_X2_481 dX2_lambda_seen_7_2 (q := 5) rfl rfl (hA) (nn := (0, 0)) rfl rfl rfl (Nat.le_of_ble_eq_true rfl) ⟨(Nat.le_of_ble_eq_true rfl), (Nat.le_of_ble_eq_true rfl)⟩ ⟨(Nat.le_of_ble_eq_true rfl), (Nat.le_of_ble_eq_true rfl)⟩ (fun v g1 hp => ?_)
  obtain ⟨f1, rfl, hg1⟩ := hp
  replace hg1 := hg1.symm
  subst hg1
  exact x_zret hC hr (by rcases hx with h | h <;> subst h <;> rfl) dX2_lambda_seen_7_5 (Nat.le_of_ble_eq_true rfl) (Nat.le_of_ble_eq_true rfl) ⟨f1, rfl, rfl⟩

theorem xlay_8 : xla_8.2.1 = #[.object "KilnBench"] := by decide +kernel
set_option maxHeartbeats 4000000 in
set_option maxRecDepth 100000 in
theorem m_X2_seen {l : Launch} {s0 : State} {D : va_G} (h0 : x0 l s0 D) (σ : KS) (gF : xG) (f : aEnv) {b : Nat → Bool} (hL0 : gF (2000, 0) = none) (hA : ∀ (gF2 : xG), (∀ k x, gF k = some x → gF2 k = some x) → ∀ (h : Nat) (_ : h < 21) (f2 : aEnv), xMet l s0 D yX2_isAsSeen cX2_isAsSeen 4 (some .boolean) (xr 38 0 0 1560) [.ref (kA σ 0 0), .int (nI h)] (kmix (kT σ f2) gF2) (fun r g1 => ∃ f1, r = some (.int (if b h = true then 1 else 0)) ∧ g1 = kmix (kT σ f1) gF2)) : xMet l s0 D yX2_seen cX2_seen 1 (some .int) (xr 44 1 1 3100) [.ref (kA σ 0 0)] (kmix (kT σ f) gF) (fun r g1 => ∃ f1, r = some (.int (kAH b 21)) ∧ g1 = kmix (kT σ f1) gF) := by
  refine xMet.ofN h0 (by decide +kernel) rfl ?_
  intro p e s m args below meth c hC hr hnm hnd
  refine x_aloadr_n hC dX2_seen_0 (q := 1) rfl rfl ?_
  refine x_indy hC hnd (index := 440) (ci := 108) (vals := [.ref (kA σ 0 0)]) (rest := []) (2000, 0) xlw_8 (fun _ => rfl) rfl rfl rfl xfi_8 xli_8 (by rw [xlay_8]; rfl) rfl (fun i v hv => by
      rw [xlay_8]
      cases i with
      | zero => cases hv; rfl
      | succ j => cases hv) dX2_seen_1 (q := 6) rfl rfl hL0 rfl (Nat.le_of_ble_eq_true rfl) (Nat.le_of_ble_eq_true rfl) (Nat.le_of_ble_eq_true rfl) (Nat.le_of_ble_eq_true rfl) (fun aL => ?_)
  refine x_geq (g' := kmix (kT σ f) (xu gF (2000, 0) (some (aL, .inr (108, [.ref (kA σ 0 0)]))))) (kmix_xuF _ _ _ _ rfl) ?_
  refine x_callS hC xv_X2_393 dX2_seen_6 (q := 9) rfl rfl (m_X2_allHeats h0 σ (xu gF (2000, 0) (some (aL, .inr (108, [.ref (kA σ 0 0)])))) f (sh := xsh_8) (by0 := xby_8) (aL := aL) (b := b) (by decide +kernel) (fun h hh f2 => xl_lamb_8 h0 (n := (2000, 0)) rfl rfl (nn := (0, 0)) rfl (m_X2_lambda_seen_7 h0 σ (xu gF (2000, 0) (some (aL, .inr (108, [.ref (kA σ 0 0)])))) f2 (hA _ (xu_sub hL0) h hh f2) (by split <;> first | exact Or.inr rfl | exact Or.inl rfl)) (fun v g1 hq => ⟨_, hq.choose_spec.1⟩) (fun x g1 hq => by
        have h2 := Option.some.inj hq.choose_spec.1
        have h2 := Value.int.inj h2
        rw [h2]
        split <;> first | exact Or.inr rfl | exact Or.inl rfl))) rfl (Nat.le_of_ble_eq_true rfl) ⟨(Nat.le_of_ble_eq_true rfl), (Nat.le_of_ble_eq_true rfl)⟩ ⟨(Nat.le_of_ble_eq_true rfl), (Nat.le_of_ble_eq_true rfl)⟩ (fun v g1 hp => ?_)
  obtain ⟨f1, rfl, hg1⟩ := hp
  replace hg1 := hg1.symm
  subst hg1
  refine x_sub (g' := kmix (kT σ f1) gF) (xu_back hL0) ?_
  exact x_iret hC hr dX2_seen_9 (Nat.le_of_ble_eq_true rfl) (Nat.le_of_ble_eq_true rfl) ⟨f1, rfl, rfl⟩
