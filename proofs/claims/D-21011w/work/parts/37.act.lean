theorem xMet.room {l : Launch} {s0 : State} {D : va_G} {y : MethodName} {b : ByteArray} {L : Nat} {r : Option FieldType} {rm rm' : Room} {av : List Value} {g : xG} {p1 : Option Value → xG → Prop} (h : xMet l s0 D y b L r rm av g p1) (h1 : rm.frames ≤ rm'.frames) (h2 : rm.cells ≤ rm'.cells) (h3 : rm.slots ≤ rm'.slots) (h4 : rm.locals ≤ rm'.locals) : xMet l s0 D y b L r rm' av g p1 := by
  intro p e ha hf1 hf2 s m args below hfr hap hP hK
  have hap' : (headSpec (ws_ y b L r) rm).appliesLoose y e.platform s = true := by
    unfold Spec.appliesLoose at hap ⊢
    rw [hfr] at hap ⊢
    simp only [Bool.and_eq_true] at hap ⊢
    refine ⟨⟨hap.1.1, ?_⟩, hap.2⟩
    have := hap.1.2
    unfold State.hasRoom at this ⊢
    rw [Bool.and_eq_true, Bool.and_eq_true, Bool.and_eq_true, Bool.and_eq_true] at this ⊢
    obtain ⟨⟨⟨⟨a1, b1⟩, c1⟩, d1⟩, e1⟩ := this
    have a1 := of_decide_eq_true a1
    obtain ⟨b1, b2, b3, b4, b5⟩ := of_decide_eq_true b1
    have c1 := of_decide_eq_true c1
    have d1 := of_decide_eq_true d1
    dsimp only [headSpec] at a1 b1 b2 b3 b4 c1 d1 ⊢
    exact ⟨⟨⟨⟨decide_eq_true (by omega), decide_eq_true ⟨by omega, by omega, by omega, by omega, b5⟩⟩, decide_eq_true (by omega)⟩, decide_eq_true (by omega)⟩, e1⟩
  obtain ⟨n, o, q1, q2, q3, q4, L1, q5, q6⟩ := h p e ha hf1 hf2 s m args below hfr hap' hP hK
  exact ⟨n, o, q1, q2, q3, q4, L1, ⟨q5.1, q5.2.1, q5.2.2.mono h2 h3⟩, q6⟩

/-! ArrayList.add for lists of at most ten; Act -/
/-- the first n, none behind them -/
def xFi (h : Nat → Nat) (n : Nat) : Nat → Option Nat := fun j => if j < n then some (h j) else none
theorem xFi_up {h : Nat → Nat} {n v : Nat} (hv : v = h n) : va_up (xFi h n) n (some v) = xFi h (n + 1) := by
  subst hv
  funext j
  unfold va_up xFi
  by_cases e : j = n
  · subst e; rw [if_pos rfl, if_pos (by omega)]
  · rw [if_neg e]
    by_cases h : j < n
    · rw [if_pos h, if_pos (by omega)]
    · rw [if_neg h, if_neg (by omega)]
theorem m_add10 {l : Launch} {s0 : State} {D : va_G} (h0 : x0 l s0 D) (g : xG) {n nd n2 : xN} {a d d0 v sz : Nat} {mc : Int32} {x : xE} {h : Nat → Nat} (hd1 : Nat.blt n.1 1000 = true) (hd2 : Nat.blt nd.1 1000 = true) (hd3 : Nat.blt n2.1 1000 = true) (hne : n ≠ nd) (hn2 : n2 ≠ n) (hn3 : n2 ≠ nd) (hl : g n = some (a, xO 21 [.int mc, .ref d, .int (nI sz)])) (ha : g nd = if sz = 0 then none else some (d, xAr (.object "java/lang/Object") 10 (xFi h sz))) (hd0 : sz = 0 → d = d0) (hz : xE0 s0 g d0) (he : g n2 = some (v, x)) (hx : Cond.castable (xnm x) "java/lang/Object" ∈ lw_tbl) (hv : v = h sz) (hs : sz < 10) : xMet l s0 D yJ3_add cJ3_add 2 (some .boolean) (xr 9 1 10 330) [.ref a, .ref v] g (fun r g1 => ∃ d1, r = some (.int 1) ∧ g1 = xu (xu g nd (some (d1, xAr (.object "java/lang/Object") 10 (xFi h (sz + 1))))) n (some (a, xO 21 [.int (mc + 1), .ref d1, .int (nI (sz + 1))]))) := by
  by_cases e : sz = 0
  · subst e
    rw [if_pos rfl] at ha
    have ed := hd0 rfl
    subst ed
    have hn0 : n ≠ (1000, 0) := fun q => by rw [q] at hd1; cases hd1
    have := m_J3_add_B h0 g hd1 hd2 hd3 hne hn2 hn3 hn0 hl ha hz he hx
    refine this.post (fun r g1 hp => ?_)
    obtain ⟨d1, h1, h2⟩ := hp
    refine ⟨d1, h1, ?_⟩
    rw [h2, ← xFi_up hv]
    rfl
  · rw [if_neg e] at ha
    have := m_J3_add_A h0 g hd1 hd2 hd3 hne hn2 hl ha he hx hs (by decide)
    refine (this.room (rm' := xr 9 1 10 330) (Nat.le_refl _) (Nat.zero_le _) (Nat.zero_le _) (Nat.le_refl _)).post (fun r g1 hp => ?_)
    refine ⟨d, hp.1, ?_⟩
    rw [hp.2, xFi_up hv]

/-- the frame with an act in the making: its rows hold the first i told rows -/
def kAF (σ : KS) (gF : xG) (a aw ah al d i : Nat) : xG := xu (xu (xu (xu (xu gF (49, 0) (some (aw, xAi .int 40 (kWf σ (kA σ 61 0))))) (50, 0) (some (ah, xAi .int 3 (kHf σ (kA σ 62 0))))) (51, 0) (some (al, xO 21 [.int (nI i), .ref d, .int (nI i)]))) (52, 0) (if i = 0 then none else some (d, xAr (.object "java/lang/Object") 10 (xFi (kA σ 12) i)))) (48, 0) (some (a, xO 20 [.int (iI (kI σ 3 0)), .int (iI (kI σ 7 0)), .ref aw, .ref ah, .ref (kA σ 0 0), .ref al, .ref (kA σ 0 0)]))

set_option maxHeartbeats 4000000 in
set_option maxRecDepth 100000 in
theorem m_X23_init {l : Launch} {s0 : State} {D : va_G} (h0 : x0 l s0 D) (σ : KS) (gF : xG) {a d0 : Nat} (h48 : gF (48, 0) = some (a, xO 20 [.int 0, .int 0, .null, .null, .null, .null, .null])) (h49 : gF (49, 0) = none) (h50 : gF (50, 0) = none) (h51 : gF (51, 0) = none) (h52 : gF (52, 0) = none) (hw : KW σ) (hz : xE0 s0 gF d0) (h10 : kA σ 63 0 ≤ 10) : xMet l s0 D yX23_init cX23_init 3 none (xr 20 23 300 1000) [.ref a, .ref (kA σ 0 0)] (kmix σ gF) (fun r g1 => ∃ aw ah al d, r = none ∧ (kA σ 63 0 = 0 → d = d0) ∧ g1 = kmix σ (kAF σ gF a aw ah al d (kA σ 63 0))) := by
  refine xMet.of h0 (by decide +kernel) rfl ?_
  intro p e s m args below meth c hC hr hnm
  refine x_aloadr_n hC dX23_init_0 (q := 1) rfl rfl ?_
  refine x_aloadr_n hC dX23_init_1 (q := 2) rfl rfl ?_
  refine x_putF hC hnm (n := (48, 0)) xff_X23_1_20 xd_20 rfl dX23_init_2 (q := 5) rfl h48 rfl rfl rfl ?_
  refine x_geq (g' := kmix σ (xu gF (48, 0) (some (a, xO 20 [.int 0, .int 0, .null, .null, .null, .null, .ref (kA σ 0 0)])))) (by
    repeat rw [kmix_xuF _ _ _ _ rfl]
    first
      | rfl
      | (refine congrArg (kmix σ) ?_; funext k; simp only [xu, kAF]; (repeat' split) <;> first | rfl | simp_all)) ?_
  refine x_aloadr_n hC dX23_init_5 (q := 6) rfl rfl ?_
  refine x_aloadr_n hC dX23_init_6 (q := 7) rfl rfl ?_
  refine x_callI hC xv_X23_7 dX23_init_7 (q := 10) rfl rfl (m_X20_init_act h0 σ (xu gF (48, 0) (some (a, xO 20 [.int 0, .int 0, .null, .null, .null, .null, .ref (kA σ 0 0)]))) (a := a) (v5 := .null) (v6 := .ref (kA σ 0 0)) rfl h49 h50 hw) rfl (Nat.le_of_ble_eq_true rfl) ⟨(Nat.le_of_ble_eq_true rfl), (Nat.le_of_ble_eq_true rfl)⟩ ⟨(Nat.le_of_ble_eq_true rfl), (Nat.le_of_ble_eq_true rfl)⟩ (fun v g1 hp => ?_)
  obtain ⟨aw, ah, rfl, hg1⟩ := hp
  replace hg1 := hg1.symm
  subst hg1
  refine x_geq (g' := kmix σ (xu (xu (xu gF (49, 0) (some (aw, xAi .int 40 (kWf σ (kA σ 61 0))))) (50, 0) (some (ah, xAi .int 3 (kHf σ (kA σ 62 0))))) (48, 0) (some (a, xO 20 [.int (iI (kI σ 3 0)), .int (iI (kI σ 7 0)), .ref aw, .ref ah, .ref (kA σ 0 0), .null, .ref (kA σ 0 0)])))) (by
    repeat rw [kmix_xuF _ _ _ _ rfl]
    first
      | rfl
      | (refine congrArg (kmix σ) ?_; funext k; simp only [xu, kAF]; (repeat' split) <;> first | rfl | simp_all)) ?_
  refine x_aloadr_n hC dX23_init_10 (q := 11) rfl rfl ?_
  refine x_new hC (fs := [.int 0, .null, .int 0]) (51, 0) xc_21 q1953 q133 q83 dX23_init_11 (q := 14) rfl rfl h51 (fun j hj => by match j, hj with | 0, _ => rfl | 1, _ => rfl | 2, _ => rfl | j + 3, h => exact absurd h (by omega)) (Nat.le_of_ble_eq_true rfl) (Nat.le_of_ble_eq_true rfl) (fun a_11 => ?_)
  refine x_geq (g' := kmix σ (xu (xu (xu (xu gF (49, 0) (some (aw, xAi .int 40 (kWf σ (kA σ 61 0))))) (50, 0) (some (ah, xAi .int 3 (kHf σ (kA σ 62 0))))) (51, 0) (some (a_11, xO 21 [.int 0, .null, .int 0]))) (48, 0) (some (a, xO 20 [.int (iI (kI σ 3 0)), .int (iI (kI σ 7 0)), .ref aw, .ref ah, .ref (kA σ 0 0), .null, .ref (kA σ 0 0)])))) (by
    repeat rw [kmix_xuF _ _ _ _ rfl]
    first
      | rfl
      | (refine congrArg (kmix σ) ?_; funext k; simp only [xu, kAF]; (repeat' split) <;> first | rfl | simp_all)) ?_
  refine x_dup hC dX23_init_14 (q := 15) rfl rfl ?_
  refine x_callI hC xv_X23_15 dX23_init_15 (q := 18) rfl rfl (m_J3_init h0 _ (n := (51, 0)) (d0 := d0) rfl rfl ⟨hz.1, hz.2⟩) rfl (Nat.le_of_ble_eq_true rfl) ⟨(Nat.le_of_ble_eq_true rfl), (Nat.le_of_ble_eq_true rfl)⟩ ⟨(Nat.le_of_ble_eq_true rfl), (Nat.le_of_ble_eq_true rfl)⟩ (fun v g1 hp => ?_)
  obtain ⟨rfl, hg1⟩ := hp
  replace hg1 := hg1.symm
  subst hg1
  refine x_geq (g' := kmix σ (xu (xu (xu (xu gF (49, 0) (some (aw, xAi .int 40 (kWf σ (kA σ 61 0))))) (50, 0) (some (ah, xAi .int 3 (kHf σ (kA σ 62 0))))) (51, 0) (some (a_11, xO 21 [.int 0, .ref d0, .int 0]))) (48, 0) (some (a, xO 20 [.int (iI (kI σ 3 0)), .int (iI (kI σ 7 0)), .ref aw, .ref ah, .ref (kA σ 0 0), .null, .ref (kA σ 0 0)])))) (by
    repeat rw [kmix_xuF _ _ _ _ rfl]
    first
      | rfl
      | (refine congrArg (kmix σ) ?_; funext k; simp only [xu, kAF]; (repeat' split) <;> first | rfl | simp_all)) ?_
  refine x_putF hC hnm (n := (48, 0)) xff_X23_18_20 xd_20 rfl dX23_init_18 (q := 21) rfl rfl rfl rfl rfl ?_
  refine x_geq (g' := kmix σ (kAF σ gF a aw ah a_11 d0 0)) (by
    repeat rw [kmix_xuF _ _ _ _ rfl]
    first
      | rfl
      | (refine congrArg (kmix σ) ?_; funext k; simp only [xu, kAF]; (repeat' split) <;> first | rfl | simp_all)) ?_
  refine x_iconst hC dX23_init_21 (q := 22) rfl (v := (0)) (by decide) ?_
  refine x_istore_n hC dX23_init_22 (q := 23) rfl rfl ?_
  refine x_widen (k0 := 3 + 0) (n0 := 46 + 10 * 0) (Nat.le_of_ble_eq_true rfl) (Nat.le_of_ble_eq_true rfl) ?_
  refine x_loop (S := (fun i : Nat × Nat => (3 + i.1, 46 + 10 * i.1, kmix σ (kAF σ gF a aw ah a_11 i.2 i.1), ([some (.ref a), some (.ref (kA σ 0 0)), some (.int (nI i.1))] : xL), ([] : List Value)))) (Inv := fun i => i.1 ≤ kA σ 63 0 ∧ (i.1 = 0 → i.2 = d0)) (μ := fun i => kA σ 63 0 - i.1) ?_ (0, d0) ⟨Nat.zero_le _, fun _ => rfl⟩
  intro ⟨i, d⟩ hi ih
  dsimp only at hi ih ⊢
  refine x_iload_n hC dX23_init_23 (q := 24) rfl rfl ?_
  refine x_aloadr_n hC dX23_init_24 (q := 25) rfl rfl ?_
  refine x_get hC xf_X23_22_1 dX23_init_25 (q := 28) rfl (n := (0, 0)) rfl rfl ?_
  refine x_callV hC xv_X23_27 dX23_init_28 (q := 31) rfl rfl (m_J3_size h0 _ (n := (10, 0)) rfl) (nn := (10, 0)) rfl rfl rfl (Nat.le_of_ble_eq_true rfl) ⟨(Nat.le_of_ble_eq_true rfl), (Nat.le_of_ble_eq_true rfl)⟩ ⟨by show 3 + i + 0 ≤ 23; omega, by show 46 + 10 * i + 0 ≤ 300; omega⟩ (fun v g1 hp => ?_)
  obtain ⟨rfl, hg1⟩ := hp
  replace hg1 := hg1.symm
  subst hg1
  refine x_icmp_ge hC dX23_init_31 (q := 34) rfl (tgt := 59) rfl (fun h31 => ?_) (fun h31 => ?_)
  · have hi2 : i = kA σ 63 0 := by
      have := (nI_leI (by omega) (by omega)).mp h31
      omega
    exact x_vret hC hr dX23_init_59 (by show 3 + i + 0 ≤ 23; omega) (by show 46 + 10 * i + 0 ≤ 300; omega) ⟨aw, ah, a_11, d, rfl, fun q => hi.2 (hi2.trans q), by rw [hi2]⟩
  have hi2 : i < kA σ 63 0 := Nat.lt_of_not_le (fun q => h31 (nI_le q (by omega)))
  have hc63 := hw.c63
  refine x_aloadr_n hC dX23_init_34 (q := 35) rfl rfl ?_
  refine x_get hC xf_X23_18_20 dX23_init_35 (q := 38) rfl (n := (48, 0)) rfl rfl ?_
  refine x_aloadr_n hC dX23_init_38 (q := 39) rfl rfl ?_
  refine x_get hC xf_X23_22_1 dX23_init_39 (q := 42) rfl (n := (0, 0)) rfl rfl ?_
  refine x_iload_n hC dX23_init_42 (q := 43) rfl rfl ?_
  refine x_callV hC xv_X23_31 dX23_init_43 (q := 46) rfl rfl (m_J3_get h0 _ (n := (10, 0)) (nd := (11, 0)) rfl (kg_11 (by omega)) (j := i) rfl (sz := kA σ 63 0) rfl hi2 hc63.1 (by omega)) (nn := (10, 0)) rfl rfl rfl (Nat.le_of_ble_eq_true rfl) ⟨(Nat.le_of_ble_eq_true rfl), (Nat.le_of_ble_eq_true rfl)⟩ ⟨by show 3 + i + 0 + 0 ≤ 23; omega, by show 46 + 10 * i + 0 + 0 ≤ 300; omega⟩ (fun v g1 hp => ?_)
  rw [if_pos hi2] at hp
  obtain ⟨rfl, hg1⟩ := hp
  replace hg1 := hg1.symm
  subst hg1
  refine x_castA hC q1957 (by dsimp only; decide) dX23_init_46 (q := 49) rfl (n := (12, i)) rfl (kg_12 i (Or.inl hi2)) ?_
  refine x_callV hC xv_X23_37 dX23_init_49 (q := 52) rfl rfl (m_add10 h0 _ (n := (51, 0)) (nd := (52, 0)) (n2 := (12, i)) (h := kA σ 12) (d0 := d0) rfl rfl rfl (by decide) (by intro q; cases q) (by intro q; cases q) rfl rfl hi.2 ⟨hz.1, hz.2⟩ (kg_12 i (Or.inl hi2)) q2199 rfl (by omega)) (nn := (51, 0)) rfl rfl rfl (Nat.le_of_ble_eq_true rfl) ⟨(Nat.le_of_ble_eq_true rfl), (Nat.le_of_ble_eq_true rfl)⟩ ⟨by show 3 + i + 0 + 0 + 1 ≤ 23; omega, by show 46 + 10 * i + 0 + 0 + 10 ≤ 300; omega⟩ (fun v g1 hp => ?_)
  obtain ⟨d1, rfl, hg1⟩ := hp
  replace hg1 := hg1.symm
  subst hg1
  refine x_geq (g' := kmix σ (kAF σ gF a aw ah a_11 d1 (i + 1))) (by
    rw [kmix_xuF _ _ _ _ rfl, kmix_xuF _ _ _ _ rfl, nI_1]
    refine congrArg (kmix σ) ?_; funext k; simp only [xu, kAF]; (repeat' split) <;> first | rfl | simp_all) ?_
  refine x_pop hC dX23_init_52 (q := 53) rfl rfl ?_
  refine x_iinc hC dX23_init_53 (q := 56) rfl rfl (v := nI (i + 1)) (nI_1 i) ?_
  refine x_goto hC dX23_init_56 (tgt := 23) rfl ?_
  refine x_widen (k0 := 3 + (i + 1)) (n0 := 46 + 10 * (i + 1)) (by show 3 + i + 0 + 0 + 1 ≤ _; omega) (by show 46 + 10 * i + 0 + 0 + 10 ≤ _; omega) ?_
  exact ih (i + 1, d1) ⟨by omega, fun q => absurd q (Nat.succ_ne_zero i)⟩ (by dsimp only; omega)
