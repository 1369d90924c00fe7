/-! THINKING -/
/-- a spot in the frame -/
def kSF (gF : xG) (a aw ah : Nat) (wk fu : Int32) (w ht : Nat → Int32) (o : Nat) : xG := fun n => if n = (45, 0) then some (a, xO 17 [.int wk, .int fu, .ref aw, .ref ah, .ref o]) else if n = (46, 0) then some (aw, xAi .int 40 w) else if n = (47, 0) then some (ah, xAi .int 3 ht) else gF n
/-- no spot stands in the frame -/
def kNS (gF : xG) : Prop := gF (45, 0) = none ∧ gF (46, 0) = none ∧ gF (47, 0) = none
theorem kSF_sub {gF : xG} (h : kNS gF) {a aw ah : Nat} {wk fu : Int32} {w ht : Nat → Int32} {o : Nat} (n : xN) (x : Nat × xE) (hx : gF n = some x) : kSF gF a aw ah wk fu w ht o n = some x := by
  unfold kSF
  rw [if_neg (fun q => by rw [q, h.1] at hx; cases hx), if_neg (fun q => by rw [q, h.2.1] at hx; cases hx), if_neg (fun q => by rw [q, h.2.2] at hx; cases hx)]
  exact hx
theorem kSF_ne {gF : xG} {a aw ah : Nat} {wk fu : Int32} {w ht : Nat → Int32} {o : Nat} {n : xN} (h : n.1 < 45 ∨ 47 < n.1) : kSF gF a aw ah wk fu w ht o n = gF n := by
  unfold kSF
  rw [if_neg (fun q => by rw [q] at h; dsimp only at h; omega), if_neg (fun q => by rw [q] at h; dsimp only at h; omega), if_neg (fun q => by rw [q] at h; dsimp only at h; omega)]
theorem kNB_SF {gF : xG} (h : kNB gF) {a aw ah : Nat} {wk fu : Int32} {w ht : Nat → Int32} {o : Nat} : kNB (kSF gF a aw ah wk fu w ht o) := fun n h1 h2 => by rw [kSF_ne (by omega)]; exact h n h1 h2
theorem xE0_SF {s0 : State} {gF : xG} {d0 : Nat} (h : xE0 s0 gF d0) {a aw ah : Nat} {wk fu : Int32} {w ht : Nat → Int32} {o : Nat} : xE0 s0 (kSF gF a aw ah wk fu w ht o) d0 := by
  obtain ⟨h1, f, h2⟩ := h
  exact ⟨h1, f, by rw [kSF_ne (Or.inr (by decide))]; exact h2⟩

set_option maxHeartbeats 4000000 in
set_option maxRecDepth 100000 in
theorem m_X2_thinks {l : Launch} {s0 : State} {D : va_G} (h0 : x0 l s0 D) (σ : KS) (gF : xG) (hw : KW σ) (hNS : kNS gF) : xMet l s0 D yX2_thinks cX2_thinks 1 (some (.object "KilnBench$Spot")) (xr 5 3 48 120) [.ref (kA σ 0 0)] (kmix σ gF) (fun r g1 => ∃ a aw ah, r = some (.ref a) ∧ g1 = kmix (kIs σ 4 0 1) (kSF gF a aw ah (iI (kI σ 3 0)) (iI (kI σ 7 0)) (kWf σ (kA σ 61 0)) (kHf σ (kA σ 62 0)) (kA σ 0 0))) := by
  refine xMet.of h0 (by decide +kernel) rfl ?_
  intro p e s m args below meth c hC hr hnm
  refine x_aloadr_n hC dX2_thinks_0 (q := 1) rfl rfl ?_
  refine x_iconst hC dX2_thinks_1 (q := 2) rfl (v := (1)) (by decide) ?_
  refine x_put hC (n := (0, 0)) xf_X2_250_1 xd_1 rfl dX2_thinks_2 (q := 5) rfl rfl rfl rfl rfl ?_
  refine x_geq (kf_thought (z := 1) rfl) ?_
  refine x_new hC (fs := [.int 0, .int 0, .null, .null, .null]) (45, 0) xc_17 q1629 q1630 q114 dX2_thinks_5 (q := 8) rfl rfl hNS.1 (fun j hj => by match j, hj with | 0, _ => rfl | 1, _ => rfl | 2, _ => rfl | 3, _ => rfl | 4, _ => rfl | j + 5, h => exact absurd h (by omega)) (Nat.le_of_ble_eq_true rfl) (Nat.le_of_ble_eq_true rfl) (fun a_5 => ?_)
  refine x_geq (kmix_xuF _ _ _ _ rfl) ?_
  refine x_dup hC dX2_thinks_8 (q := 9) rfl rfl ?_
  refine x_aloadr_n hC dX2_thinks_9 (q := 10) rfl rfl ?_
  refine x_callI hC xv_X2_274 dX2_thinks_10 (q := 13) rfl rfl (m_X20_init h0 (kIs σ 4 0 1) (xu gF (45, 0) (some (a_5, xO 17 [.int 0, .int 0, .null, .null, .null]))) (a := a_5) (xu_eq _ _ _) (by rw [xu_ne (by decide)]; exact hNS.2.1) (by rw [xu_ne (by decide)]; exact hNS.2.2) hw) rfl (Nat.le_of_ble_eq_true rfl) ⟨(Nat.le_of_ble_eq_true rfl), (Nat.le_of_ble_eq_true rfl)⟩ ⟨(Nat.le_of_ble_eq_true rfl), (Nat.le_of_ble_eq_true rfl)⟩ (fun v g1 hp => ?_)
  obtain ⟨aw, ah, rfl, hg1⟩ := hp
  replace hg1 := hg1.symm
  subst hg1
  refine x_geq (g' := kmix (kIs σ 4 0 1) (kSF gF a_5 aw ah (iI (kI σ 3 0)) (iI (kI σ 7 0)) (kWf σ (kA σ 61 0)) (kHf σ (kA σ 62 0)) (kA σ 0 0))) (congrArg (kmix (kIs σ 4 0 1)) (funext fun n => by
    show xu (xu (xu (xu gF (45, 0) _) (46, 0) (some (aw, xAi .int 40 (kWf σ (kA σ 61 0))))) (47, 0) (some (ah, xAi .int 3 (kHf σ (kA σ 62 0))))) (45, 0) (some (a_5, xO 17 [.int (iI (kI σ 3 0)), .int (iI (kI σ 7 0)), .ref aw, .ref ah, .ref (kA σ 0 0)])) n = _
    unfold kSF xu
    (repeat' split) <;> first | rfl | simp_all)) ?_
  exact x_aret hC hr (Or.inl ⟨_, rfl⟩) (Or.inr ⟨_, rfl⟩) dX2_thinks_13 (Nat.le_of_ble_eq_true rfl) (Nat.le_of_ble_eq_true rfl) ⟨a_5, aw, ah, rfl, rfl⟩

set_option maxHeartbeats 4000000 in
set_option maxRecDepth 100000 in
theorem m_X2_thoughtOf {l : Launch} {s0 : State} {D : va_G} (h0 : x0 l s0 D) (σ : KS) (gF : xG) (hv : KV σ) (hNS : kNS gF) {a aw ah : Nat} {wk fu : Int} {w ht : Nat → Int32} (hk : kWok w (kA σ 61 0) (kA σ 62 0)) : xMet l s0 D yX2_thoughtOf cX2_thoughtOf 2 none (xr 6 0 0 130) [.ref (kA σ 0 0), .ref a] (kmix σ (kSF gF a aw ah (iI wk) (iI fu) w ht (kA σ 0 0))) (fun r g1 => r = none ∧ g1 = kmix (kBack (kIs σ 4 0 0) w ht wk fu) gF) := by
  refine xMet.of h0 (by decide +kernel) rfl ?_
  intro p e s m args below meth c hC hr hnm
  refine x_aloadr_n hC dX2_thoughtOf_0 (q := 1) rfl rfl ?_
  refine x_iconst hC dX2_thoughtOf_1 (q := 2) rfl (v := (0)) (by decide) ?_
  refine x_put hC (n := (0, 0)) xf_X2_250_1 xd_1 rfl dX2_thoughtOf_2 (q := 5) rfl rfl rfl rfl rfl ?_
  refine x_geq (kf_thought (z := 0) rfl) ?_
  refine x_aloadr_n hC dX2_thoughtOf_5 (q := 6) rfl rfl ?_
  refine x_callV hC xv_X2_277 dX2_thoughtOf_6 (q := 9) rfl rfl (m_X20_isBack h0 (kIs σ 4 0 0) (kSF gF a aw ah (iI wk) (iI fu) w ht (kA σ 0 0)) (KV_kIs hv (by decide) _ _) (nn := (45, 0)) (nw := (46, 0)) (nh := (47, 0)) rfl rfl rfl (a := a) (aw := aw) (ah := ah) (wk := wk) (fu := fu) (w := w) (ht := ht) rfl rfl rfl hk) (nn := (45, 0)) rfl rfl rfl (Nat.le_of_ble_eq_true rfl) ⟨(Nat.le_of_ble_eq_true rfl), (Nat.le_of_ble_eq_true rfl)⟩ ⟨(Nat.le_of_ble_eq_true rfl), (Nat.le_of_ble_eq_true rfl)⟩ (fun v g1 hp => ?_)
  obtain ⟨rfl, hg1⟩ := hp
  replace hg1 := hg1.symm
  subst hg1
  refine x_sub (g' := kmix (kBack (kIs σ 4 0 0) w ht wk fu) gF) (kmix_sub (kSF_sub hNS)) ?_
  exact x_vret hC hr dX2_thoughtOf_9 (Nat.le_of_ble_eq_true rfl) (Nat.le_of_ble_eq_true rfl) ⟨rfl, rfl⟩
