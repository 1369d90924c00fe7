/-! ASKING: tempers, cracks, sticks, burns -/
abbrev ePut (f : aEnv) (j : Nat) (x : Int32) : aEnv := vp_updL f j x.toInt64
def eW (σ : KS) (f : aEnv) (x : Int32) : aEnv := ePut (ePut f 0 x) 1 (iI (kI σ 3 0))
def eC (σ : KS) (f : aEnv) (c : Nat) (x y : Int32) : aEnv := ePut (ePut (ePut (eW σ f x) 2 (iI (kI σ 31 c))) 3 (iI (kI σ 32 c))) 4 y
def kcut (v : Int64) (most : Int32) : Int32 := (if 0 < (if v < most.toInt64 then v else most.toInt64) then (if v < most.toInt64 then v else most.toInt64) else (0 : Int64)).toInt32
def aDepB (j i : Nat) : Bool := Nat.blt i 2 || (match j with
  | 0 => Nat.ble i 4
  | 1 => Nat.beq i 8 || Nat.beq i 9
  | 2 => Nat.ble i 5
  | _ => Nat.beq i 6 || Nat.beq i 7)
/-- the town's four formulas (temper, burns, cracks, sticks), as functions of what they may ask -/
def kF (gF : xG) (σ : KS) (F : Nat → Option (aEnv → Int64)) : Prop := ∀ j, j < 4 → (kO σ 2 j 0 = none ∧ F j = none) ∨ ∃ (a : Nat) (fn : aEnv → Int64), kO σ 2 j 0 = some a ∧ F j = some fn ∧ aR gF 6 (Nat.ble 2 j) a fn ∧ ∀ e e' : aEnv, (∀ i, aDepB j i = true → e i = e' i) → fn e = fn e'
def e00 : aEnv := fun _ => 0
theorem eC_dep (σ : KS) (f : aEnv) (ch : Nat) (x y : Int32) : ∀ i, aDepB 0 i = true → eC σ f ch x y i = eC σ e00 ch x y i := by
  intro i h
  match i, h with
  | 0, _ => rfl
  | 1, _ => rfl
  | 2, _ => rfl
  | 3, _ => rfl
  | 4, _ => rfl
  | i + 5, h => exact absurd h (by simp [aDepB])
theorem eC5_dep (σ : KS) (f : aEnv) (ch : Nat) (x y z : Int32) : ∀ i, aDepB 2 i = true → ePut (eC σ f ch x y) 5 z i = ePut (eC σ e00 ch x y) 5 z i := by
  intro i h
  match i, h with
  | 0, _ => rfl
  | 1, _ => rfl
  | 2, _ => rfl
  | 3, _ => rfl
  | 4, _ => rfl
  | 5, _ => rfl
  | i + 6, h => exact absurd h (by simp [aDepB])
theorem eS_dep (σ : KS) (f : aEnv) (x y z : Int32) : ∀ i, aDepB 3 i = true → ePut (ePut (eW σ f x) 6 y) 7 z i = ePut (ePut (eW σ e00 x) 6 y) 7 z i := by
  intro i h
  match i, h with
  | 0, _ => rfl
  | 1, _ => rfl
  | 6, _ => rfl
  | 7, _ => rfl
  | 2, h => exact absurd h (by decide)
  | 3, h => exact absurd h (by decide)
  | 4, h => exact absurd h (by decide)
  | 5, h => exact absurd h (by decide)
  | i + 8, h => exact absurd h (by simp [aDepB])
theorem eB_dep (σ : KS) (f : aEnv) (x y z : Int32) : ∀ i, aDepB 1 i = true → ePut (ePut (eW σ f x) 8 y) 9 z i = ePut (ePut (eW σ e00 x) 8 y) 9 z i := by
  intro i h
  match i, h with
  | 0, _ => rfl
  | 1, _ => rfl
  | 8, _ => rfl
  | 9, _ => rfl
  | 2, h => exact absurd h (by decide)
  | 3, h => exact absurd h (by decide)
  | 4, h => exact absurd h (by decide)
  | 5, h => exact absurd h (by decide)
  | 6, h => exact absurd h (by decide)
  | 7, h => exact absurd h (by decide)
  | i + 10, h => exact absurd h (by simp [aDepB])
theorem aR_mono {g g' : xG} (h : ∀ n : xN, 40 ≤ n.1 → g' n = g n) : ∀ (d : Nat) (b : Bool) (a : Nat) (f : aEnv → Int64), aR g d b a f → aR g' d b a f := by
  intro d
  induction d with
  | zero => intro b a f q; cases b <;> exact absurd q id
  | succ d ih =>
    intro b a f q
    cases b with
    | false =>
      rcases q with ⟨n, v, hn, hg, e⟩ | ⟨n, k, hn, hg, hk, e⟩ | ⟨n, nl, nd, ns, nv, pl, sb, dl, sv, N, cap, cnt, mc, ml, fa, sg, ad, fs, hn, h1, h2, h3, h4, h5, h6, h7, e⟩ | ⟨n, t, a1, a2, ft, f1, f2, hn, h1, h2, h3, h4, e⟩
      · exact Or.inl ⟨n, v, hn, by rw [h n hn]; exact hg, e⟩
      · exact Or.inr (Or.inl ⟨n, k, hn, by rw [h n hn]; exact hg, hk, e⟩)
      · exact Or.inr (Or.inr (Or.inl ⟨n, nl, nd, ns, nv, pl, sb, dl, sv, N, cap, cnt, mc, ml, fa, sg, ad, fs, hn, by rw [h n hn.1]; exact h1, by rw [h nl hn.2.1]; exact h2, by rw [h nd hn.2.2.1]; exact h3, by rw [h ns hn.2.2.2.1]; exact h4, by rw [h nv hn.2.2.2.2]; exact h5, h6, fun j hj => ⟨(h7 j hj).1, (h7 j hj).2.1, ih _ _ _ (h7 j hj).2.2⟩, e⟩))
      · exact Or.inr (Or.inr (Or.inr ⟨n, t, a1, a2, ft, f1, f2, hn, by rw [h n hn]; exact h1, ih _ _ _ h2, ih _ _ _ h3, ih _ _ _ h4, e⟩))
    | true =>
      rcases q with ⟨n, sg, a1, a2, f1, f2, hn, h1, h2, h3, e⟩ | ⟨n, nl, nd, tl, dl, N, cnt, all, mc, fa, ad, fs, hn, h1, ha, h2, h3, h4, h5, e⟩
      · exact Or.inl ⟨n, sg, a1, a2, f1, f2, hn, by rw [h n hn]; exact h1, ih _ _ _ h2, ih _ _ _ h3, e⟩
      · exact Or.inr ⟨n, nl, nd, tl, dl, N, cnt, all, mc, fa, ad, fs, hn, by rw [h n hn.1]; exact h1, ha, by rw [h nl hn.2.1]; exact h2, by rw [h nd hn.2.2]; exact h3, h4, fun j hj => ⟨(h5 j hj).1, ih _ _ _ (h5 j hj).2⟩, e⟩
theorem aR_kmix {gF : xG} {d a : Nat} {b : Bool} {f : aEnv → Int64} (σ : KS) (h : aR gF d b a f) : aR (kmix σ gF) d b a f := aR_mono (fun n hn => kmix_F _ _ _ (by
  cases hb : Nat.blt n.1 40 with
  | false => rfl
  | true => exact absurd (Nat.le_of_ble_eq_true hb) (by omega))) _ _ _ _ h
/-- an evaluation over the class's state -/
theorem kEv {l : Launch} {s0 : State} {D : va_G} (h0 : x0 l s0 D) (σ : KS) (gF : xG) (f : aEnv) : aEv l s0 D (kmix (kT σ f) gF) (kA σ 8 0) f 6 := aEv_all h0 _ (nA := (8, 0)) (nT := (9, 0)) rfl rfl 6

set_option maxHeartbeats 4000000 in
set_option maxRecDepth 100000 in
theorem m_X2_asked {l : Launch} {s0 : State} {D : va_G} (h0 : x0 l s0 D) (σ : KS) (gF : xG) (f : aEnv) (x : Int32) : xMet l s0 D yX2_asked cX2_asked 2 (some (.array .long)) (xr 0 0 0 0) [.ref (kA σ 0 0), .int x] (kmix (kT σ f) gF) (fun r g1 => r = some (.ref (kA σ 9 0)) ∧ g1 = kmix (kT σ (eW σ f x)) gF) := by
  refine xMet.of h0 (by decide +kernel) rfl ?_
  intro p e s m args below meth c hC hr hnm
  refine x_aloadr_n hC dX2_asked_0 (q := 1) rfl rfl ?_
  refine x_get hC xf_X2_41_1 dX2_asked_1 (q := 4) rfl (n := (0, 0)) rfl rfl ?_
  refine x_get hC xf_X2_157_3 dX2_asked_4 (q := 7) rfl (n := (8, 0)) rfl rfl ?_
  refine x_iconst hC dX2_asked_7 (q := 8) rfl (v := (0)) (by decide) ?_
  refine x_iload_n hC dX2_asked_8 (q := 9) rfl rfl ?_
  refine x_i2l hC dX2_asked_9 (q := 10) rfl ?_
  refine x_last hC dX2_asked_10 (q := 11) rfl (n := (9, 0)) rfl rfl (j := 0) rfl (by decide) (by decide) ?_
  refine x_geq kf_ask ?_
  refine x_aloadr_n hC dX2_asked_11 (q := 12) rfl rfl ?_
  refine x_get hC xf_X2_41_1 dX2_asked_12 (q := 15) rfl (n := (0, 0)) rfl rfl ?_
  refine x_get hC xf_X2_157_3 dX2_asked_15 (q := 18) rfl (n := (8, 0)) rfl rfl ?_
  refine x_iconst hC dX2_asked_18 (q := 19) rfl (v := (1)) (by decide) ?_
  refine x_aloadr_n hC dX2_asked_19 (q := 20) rfl rfl ?_
  refine x_get hC xf_X2_119_1 dX2_asked_20 (q := 23) rfl (n := (0, 0)) rfl rfl ?_
  refine x_i2l hC dX2_asked_23 (q := 24) rfl ?_
  refine x_last hC dX2_asked_24 (q := 25) rfl (n := (9, 0)) rfl rfl (j := 1) rfl (by decide) (by decide) ?_
  refine x_geq kf_ask ?_
  refine x_aloadr_n hC dX2_asked_25 (q := 26) rfl rfl ?_
  refine x_get hC xf_X2_41_1 dX2_asked_26 (q := 29) rfl (n := (0, 0)) rfl rfl ?_
  refine x_get hC xf_X2_157_3 dX2_asked_29 (q := 32) rfl (n := (8, 0)) rfl rfl ?_
  exact x_aret hC hr (Or.inr ⟨_, rfl⟩) (Or.inr ⟨_, rfl⟩) dX2_asked_32 (Nat.le_of_ble_eq_true rfl) (Nat.le_of_ble_eq_true rfl) ⟨rfl, rfl⟩

set_option maxHeartbeats 4000000 in
set_option maxRecDepth 100000 in
theorem m_X2_asked_2 {l : Launch} {s0 : State} {D : va_G} (h0 : x0 l s0 D) (σ : KS) (gF : xG) (f : aEnv) (ch : Nat) (hc : ch < kA σ 61 0) (x y : Int32) : xMet l s0 D yX2_asked_2 cX2_asked_2 5 (some (.object "KilnBench$Asking")) (xr 1 0 0 21) [.ref (kA σ 0 0), .ref (kA σ 20 ch), .int x, .int y] (kmix (kT σ f) gF) (fun r g1 => r = some (.ref (kA σ 8 0)) ∧ g1 = kmix (kT σ (eC σ f ch x y)) gF) := by
  refine xMet.of h0 (by decide +kernel) rfl ?_
  intro p e s m args below meth c hC hr hnm
  refine x_aloadr_n hC dX2_asked_2_0 (q := 1) rfl rfl ?_
  refine x_iload_n hC dX2_asked_2_1 (q := 2) rfl rfl ?_
  refine x_callV hC xv_X2_160 dX2_asked_2_2 (q := 5) rfl rfl (m_X2_asked h0 σ gF f x) (nn := (0, 0)) rfl rfl rfl (Nat.le_of_ble_eq_true rfl) ⟨(Nat.le_of_ble_eq_true rfl), (Nat.le_of_ble_eq_true rfl)⟩ ⟨(Nat.le_of_ble_eq_true rfl), (Nat.le_of_ble_eq_true rfl)⟩ (fun v g1 hp => ?_)
  obtain ⟨rfl, hg1⟩ := hp
  replace hg1 := hg1.symm
  subst hg1
  refine x_astorer hC dX2_asked_2_5 (q := 7) rfl rfl ?_
  refine x_aloadr hC dX2_asked_2_7 (q := 9) rfl rfl ?_
  refine x_iconst hC dX2_asked_2_9 (q := 10) rfl (v := (2)) (by decide) ?_
  refine x_aloadr_n hC dX2_asked_2_10 (q := 11) rfl rfl ?_
  refine x_get hC xf_X2_164_5 dX2_asked_2_11 (q := 14) rfl (n := (20, ch)) (kg_20 ch hc) rfl ?_
  refine x_i2l hC dX2_asked_2_14 (q := 15) rfl ?_
  refine x_last hC dX2_asked_2_15 (q := 16) rfl (n := (9, 0)) rfl rfl (j := 2) rfl (by decide) (by decide) ?_
  refine x_geq kf_ask ?_
  refine x_aloadr hC dX2_asked_2_16 (q := 18) rfl rfl ?_
  refine x_iconst hC dX2_asked_2_18 (q := 19) rfl (v := (3)) (by decide) ?_
  refine x_aloadr_n hC dX2_asked_2_19 (q := 20) rfl rfl ?_
  refine x_get hC xf_X2_167_5 dX2_asked_2_20 (q := 23) rfl (n := (20, ch)) (kg_20 ch hc) rfl ?_
  refine x_i2l hC dX2_asked_2_23 (q := 24) rfl ?_
  refine x_last hC dX2_asked_2_24 (q := 25) rfl (n := (9, 0)) rfl rfl (j := 3) rfl (by decide) (by decide) ?_
  refine x_geq kf_ask ?_
  refine x_aloadr hC dX2_asked_2_25 (q := 27) rfl rfl ?_
  refine x_iconst hC dX2_asked_2_27 (q := 28) rfl (v := (4)) (by decide) ?_
  refine x_iload_n hC dX2_asked_2_28 (q := 29) rfl rfl ?_
  refine x_i2l hC dX2_asked_2_29 (q := 30) rfl ?_
  refine x_last hC dX2_asked_2_30 (q := 31) rfl (n := (9, 0)) rfl rfl (j := 4) rfl (by decide) (by decide) ?_
  refine x_geq kf_ask ?_
  refine x_aloadr_n hC dX2_asked_2_31 (q := 32) rfl rfl ?_
  refine x_get hC xf_X2_41_1 dX2_asked_2_32 (q := 35) rfl (n := (0, 0)) rfl rfl ?_
  exact x_aret hC hr (Or.inl ⟨_, rfl⟩) (Or.inr ⟨_, rfl⟩) dX2_asked_2_35 (Nat.le_of_ble_eq_true rfl) (Nat.le_of_ble_eq_true rfl) ⟨rfl, rfl⟩

set_option maxHeartbeats 4000000 in
set_option maxRecDepth 100000 in
theorem m_X2_cut {l : Launch} {s0 : State} {D : va_G} (h0 : x0 l s0 D) (g : xG) (v : Int64) (x : Int32) : xMet l s0 D yX2_cut cX2_cut 3 (some .int) (xr 1 0 0 23) [.long v, .int x] g (fun r g1 => r = some (.int (kcut v x)) ∧ g1 = g) := by
  refine xMet.of h0 (by decide +kernel) rfl ?_
  intro p e s m args below meth c hC hr hnm
  refine x_lconst hC dX2_cut_0 (q := 1) rfl (v := 0) (by decide) ?_
  refine x_iload_n hC dX2_cut_1 (q := 2) rfl rfl ?_
  refine x_i2l hC dX2_cut_2 (q := 3) rfl ?_
  refine x_lload_n hC dX2_cut_3 (q := 4) rfl rfl ?_
  refine x_callS hC xv_X2_65 dX2_cut_4 (q := 7) rfl rfl (m_J0_min_2 h0 g _ _) rfl (Nat.le_of_ble_eq_true rfl) ⟨(Nat.le_of_ble_eq_true rfl), (Nat.le_of_ble_eq_true rfl)⟩ ⟨(Nat.le_of_ble_eq_true rfl), (Nat.le_of_ble_eq_true rfl)⟩ (fun v g1 hp => ?_)
  obtain ⟨rfl, hg1⟩ := hp
  replace hg1 := hg1.symm
  subst hg1
  refine x_callS hC xv_X2_71 dX2_cut_7 (q := 10) rfl rfl (m_J0_max_2 h0 g _ _) rfl (Nat.le_of_ble_eq_true rfl) ⟨(Nat.le_of_ble_eq_true rfl), (Nat.le_of_ble_eq_true rfl)⟩ ⟨(Nat.le_of_ble_eq_true rfl), (Nat.le_of_ble_eq_true rfl)⟩ (fun v g1 hp => ?_)
  obtain ⟨rfl, hg1⟩ := hp
  replace hg1 := hg1.symm
  subst hg1
  refine x_l2i hC dX2_cut_10 (q := 11) rfl ?_
  exact x_iret hC hr dX2_cut_11 (Nat.le_of_ble_eq_true rfl) (Nat.le_of_ble_eq_true rfl) ⟨rfl, rfl⟩

def kTemp (F : Nat → Option (aEnv → Int64)) (σ : KS) (ch : Nat) (x y : Int32) : Int32 := match F 0 with
  | none => kcut (4 * x.toInt64) 99
  | some fn => kcut (fn (eC σ e00 ch x y)) 99
def kCrack (F : Nat → Option (aEnv → Int64)) (σ : KS) (ch : Nat) (x y : Int32) : Int32 := match F 2 with
  | none => 0
  | some fn => (fn (ePut (eC σ e00 ch x y) 5 (kTemp F σ ch x y))).toInt32
def kStick (F : Nat → Option (aEnv → Int64)) (σ : KS) (c1 : Nat) (x : Int32) (c2 : Nat) (y z : Int32) : Int32 := match F 3 with
  | none => 0
  | some fn => (fn (ePut (ePut (eW σ e00 z) 6 (if 0 ≤ x - y then x - y else -(x - y))) 7 (iI (kI σ 32 c1) + iI (kI σ 32 c2)))).toInt32
def kCnt (o : Nat → Option Nat) : Nat → Nat
  | 0 => 0
  | n + 1 => kCnt o n + (match o n with | none => 0 | some _ => 1)
def kFull (σ : KS) (kq : Nat) : Nat := kCnt (kO σ 1 kq) (kA σ 25 kq)
def kBurn (F : Nat → Option (aEnv → Int64)) (σ : KS) (kq : Nat) : Int32 := match F 1 with
  | none => iI (kI σ 41 kq)
  | some fn => (if 0 < fn (ePut (ePut (eW σ e00 (iI (kI σ 41 kq))) 8 (nI (kA σ 25 kq))) 9 (nI (kFull σ kq))) then fn (ePut (ePut (eW σ e00 (iI (kI σ 41 kq))) 8 (nI (kA σ 25 kq))) 9 (nI (kFull σ kq))) else (0 : Int64)).toInt32
theorem nar01 {x : Int64} (h : x = 0 ∨ x = 1) : narrow .boolean (.int x.toInt32) = .int x.toInt32 := by rcases h with rfl | rfl <;> rfl
theorem kCnt_le (o : Nat → Option Nat) : ∀ n, kCnt o n ≤ n := by
  intro n
  induction n with
  | zero => exact Nat.le_refl _
  | succ n ih => unfold kCnt; split <;> omega

set_option maxHeartbeats 4000000 in
set_option maxRecDepth 100000 in
theorem m_X2_temperOf_n {l : Launch} {s0 : State} {D : va_G} (h0 : x0 l s0 D) (σ : KS) (gF : xG) (f : aEnv) (ch : Nat) (hc : ch < kA σ 61 0) (x y : Int32) (hn : kO σ 2 0 0 = none) : xMet l s0 D yX2_temperOf cX2_temperOf 4 (some .int) (xr 36 0 0 1500) [.ref (kA σ 0 0), .ref (kA σ 20 ch), .int x, .int y] (kmix (kT σ f) gF) (fun r g1 => r = some (.int (kcut (4 * x.toInt64) 99)) ∧ g1 = kmix (kT σ f) gF) := by
  refine xMet.of h0 (by decide +kernel) rfl ?_
  intro p e s m args below meth c hC hr hnm
  refine x_aloadr_n hC dX2_temperOf_0 (q := 1) rfl rfl ?_
  refine x_get hC xf_X2_20_1 dX2_temperOf_1 (q := 4) rfl (n := (0, 0)) rfl rfl ?_
  refine x_get hC xf_X2_170_2 dX2_temperOf_4 (q := 7) rfl (n := (3, 0)) rfl rfl ?_
  refine x_ifnonnull hC dX2_temperOf_7 (q := 10) rfl (tgt := 24) rfl (fun a7 h7 => ?_) (fun h7 => ?_)
  · exact absurd (hn.symm.trans h7) (by simp)
  refine x_ldc2_w hC dX2_temperOf_10 (q := 13) rfl q1545 ?_
  refine x_iload_n hC dX2_temperOf_13 (q := 14) rfl rfl ?_
  refine x_i2l hC dX2_temperOf_14 (q := 15) rfl ?_
  refine x_lmul hC dX2_temperOf_15 (q := 16) rfl ?_
  refine x_bipush hC dX2_temperOf_16 (q := 18) rfl (v := (99)) (by decide) ?_
  refine x_callS hC xv_X2_176 dX2_temperOf_18 (q := 21) rfl rfl (m_X2_cut h0 _ _ _) rfl (Nat.le_of_ble_eq_true rfl) ⟨(Nat.le_of_ble_eq_true rfl), (Nat.le_of_ble_eq_true rfl)⟩ ⟨(Nat.le_of_ble_eq_true rfl), (Nat.le_of_ble_eq_true rfl)⟩ (fun v g1 hp => ?_)
  obtain ⟨rfl, hg1⟩ := hp
  replace hg1 := hg1.symm
  subst hg1
  refine x_goto hC dX2_temperOf_21 (tgt := 48) rfl ?_
  exact x_iret hC hr dX2_temperOf_48 (Nat.le_of_ble_eq_true rfl) (Nat.le_of_ble_eq_true rfl) ⟨rfl, rfl⟩

set_option maxHeartbeats 4000000 in
set_option maxRecDepth 100000 in
theorem m_X2_temperOf_s {l : Launch} {s0 : State} {D : va_G} (h0 : x0 l s0 D) (σ : KS) (gF : xG) (f : aEnv) (ch : Nat) (hc : ch < kA σ 61 0) (x y : Int32) {at0 : Nat} {fn : aEnv → Int64} (hn : kO σ 2 0 0 = some at0) (hR : aR gF 6 false at0 fn) : xMet l s0 D yX2_temperOf cX2_temperOf 4 (some .int) (xr 36 0 0 1500) [.ref (kA σ 0 0), .ref (kA σ 20 ch), .int x, .int y] (kmix (kT σ f) gF) (fun r g1 => r = some (.int (kcut (fn (eC σ f ch x y)) 99)) ∧ g1 = kmix (kT σ (eC σ f ch x y)) gF) := by
  refine xMet.of h0 (by decide +kernel) rfl ?_
  intro p e s m args below meth c hC hr hnm
  refine x_aloadr_n hC dX2_temperOf_0 (q := 1) rfl rfl ?_
  refine x_get hC xf_X2_20_1 dX2_temperOf_1 (q := 4) rfl (n := (0, 0)) rfl rfl ?_
  refine x_get hC xf_X2_170_2 dX2_temperOf_4 (q := 7) rfl (n := (3, 0)) rfl rfl ?_
  refine x_ifnonnull hC dX2_temperOf_7 (q := 10) rfl (tgt := 24) rfl (fun a7 h7 => ?_) (fun h7 => ?_)
  · refine x_aloadr_n hC dX2_temperOf_24 (q := 25) rfl rfl ?_
    refine x_get hC xf_X2_20_1 dX2_temperOf_25 (q := 28) rfl (n := (0, 0)) rfl rfl ?_
    refine x_get hC xf_X2_170_2 dX2_temperOf_28 (q := 31) rfl (n := (3, 0)) rfl rfl ?_
    refine x_steq (st1 := [.ref at0]) (by show [va_rf (kO σ 2 0 0)] = _; rw [hn]; rfl) ?_
    refine x_aloadr_n hC dX2_temperOf_31 (q := 32) rfl rfl ?_
    refine x_aloadr_n hC dX2_temperOf_32 (q := 33) rfl rfl ?_
    refine x_iload_n hC dX2_temperOf_33 (q := 34) rfl rfl ?_
    refine x_iload_n hC dX2_temperOf_34 (q := 35) rfl rfl ?_
    refine x_callV hC xv_X2_180 dX2_temperOf_35 (q := 38) rfl rfl (m_X2_asked_2 h0 σ gF f ch hc x y) (nn := (0, 0)) rfl rfl rfl (Nat.le_of_ble_eq_true rfl) ⟨(Nat.le_of_ble_eq_true rfl), (Nat.le_of_ble_eq_true rfl)⟩ ⟨(Nat.le_of_ble_eq_true rfl), (Nat.le_of_ble_eq_true rfl)⟩ (fun v g1 hp => ?_)
    obtain ⟨rfl, hg1⟩ := hp
    replace hg1 := hg1.symm
    subst hg1
    obtain ⟨Cv, yv, bv, Lv, civ, nv, fsv, hgv, hxv, hcv, hfv, ⟨hLv, hokv⟩, hMv⟩ := (kEv h0 σ gF (eC σ f ch x y)).1 _ _ (aR_kmix _ hR)
    refine x_callF hC q1413 hfv dX2_temperOf_38 (q := 43) rfl rfl hMv (nn := nv) hgv hxv rfl (Nat.le_of_ble_eq_true rfl) ⟨by dsimp only; omega, by dsimp only; omega⟩ ⟨Nat.le_refl _, Nat.le_refl _⟩ (fun v g1 hp => ?_) hokv
    obtain ⟨rfl, hg1⟩ := hp
    replace hg1 := hg1.symm
    subst hg1
    refine x_bipush hC dX2_temperOf_43 (q := 45) rfl (v := (99)) (by decide) ?_
    refine x_callS hC xv_X2_176 dX2_temperOf_45 (q := 48) rfl rfl (m_X2_cut h0 _ _ _) rfl (Nat.le_of_ble_eq_true rfl) ⟨(Nat.le_of_ble_eq_true rfl), (Nat.le_of_ble_eq_true rfl)⟩ ⟨(Nat.le_of_ble_eq_true rfl), (Nat.le_of_ble_eq_true rfl)⟩ (fun v g1 hp => ?_)
    obtain ⟨rfl, hg1⟩ := hp
    replace hg1 := hg1.symm
    subst hg1
    exact x_iret hC hr dX2_temperOf_48 (Nat.le_of_ble_eq_true rfl) (Nat.le_of_ble_eq_true rfl) ⟨rfl, rfl⟩
  · exact absurd (hn.symm.trans h7) (by simp)

theorem m_X2_temperOf {l : Launch} {s0 : State} {D : va_G} (h0 : x0 l s0 D) (σ : KS) (gF : xG) (f : aEnv) {F : Nat → Option (aEnv → Int64)} (hF : kF gF σ F) (ch : Nat) (hc : ch < kA σ 61 0) (x y : Int32) : xMet l s0 D yX2_temperOf cX2_temperOf 4 (some .int) (xr 36 0 0 1500) [.ref (kA σ 0 0), .ref (kA σ 20 ch), .int x, .int y] (kmix (kT σ f) gF) (fun r g1 => ∃ f1, r = some (.int (kTemp F σ ch x y)) ∧ g1 = kmix (kT σ f1) gF) := by
  unfold kTemp
  rcases hF 0 (by decide) with ⟨h1, h2⟩ | ⟨a, fn, h1, h2, h3, h4⟩
  · rw [h2]
    exact xMet.post (m_X2_temperOf_n h0 σ gF f ch hc x y h1) (fun v g1 h => ⟨f, h⟩)
  · rw [h2]
    refine xMet.post (m_X2_temperOf_s h0 σ gF f ch hc x y h1 h3) (fun v g1 h => ⟨_, ?_, h.2⟩)
    rw [h.1, h4 _ _ (eC_dep σ f ch x y)]

set_option maxHeartbeats 4000000 in
set_option maxRecDepth 100000 in
theorem m_X2_doesCrack_n {l : Launch} {s0 : State} {D : va_G} (h0 : x0 l s0 D) (σ : KS) (gF : xG) (f : aEnv) (ch : Nat) (hc : ch < kA σ 61 0) (x y : Int32) (hn : kO σ 2 2 0 = none) : xMet l s0 D yX2_doesCrack cX2_doesCrack 5 (some .boolean) (xr 37 0 0 1530) [.ref (kA σ 0 0), .ref (kA σ 20 ch), .int x, .int y] (kmix (kT σ f) gF) (fun r g1 => r = some (.int 0) ∧ g1 = kmix (kT σ f) gF) := by
  refine xMet.of h0 (by decide +kernel) rfl ?_
  intro p e s m args below meth c hC hr hnm
  refine x_aloadr_n hC dX2_doesCrack_0 (q := 1) rfl rfl ?_
  refine x_get hC xf_X2_20_1 dX2_doesCrack_1 (q := 4) rfl (n := (0, 0)) rfl rfl ?_
  refine x_get hC xf_X2_188_2 dX2_doesCrack_4 (q := 7) rfl (n := (3, 0)) rfl rfl ?_
  refine x_ifnonnull hC dX2_doesCrack_7 (q := 10) rfl (tgt := 12) rfl (fun a7 h7 => ?_) (fun h7 => ?_)
  · exact absurd (hn.symm.trans h7) (by simp)
  refine x_iconst hC dX2_doesCrack_10 (q := 11) rfl (v := (0)) (by decide) ?_
  exact x_zret hC hr rfl dX2_doesCrack_11 (Nat.le_of_ble_eq_true rfl) (Nat.le_of_ble_eq_true rfl) ⟨rfl, rfl⟩

set_option maxHeartbeats 4000000 in
set_option maxRecDepth 100000 in
theorem m_X2_doesCrack_s {l : Launch} {s0 : State} {D : va_G} (h0 : x0 l s0 D) (σ : KS) (gF : xG) (f : aEnv) {F : Nat → Option (aEnv → Int64)} (hF : kF gF σ F) (ch : Nat) (hc : ch < kA σ 61 0) (x y : Int32) {at0 : Nat} {fn : aEnv → Int64} (hn : kO σ 2 2 0 = some at0) (hR : aR gF 6 true at0 fn) (hd : ∀ e e' : aEnv, (∀ i, aDepB 2 i = true → e i = e' i) → fn e = fn e') : xMet l s0 D yX2_doesCrack cX2_doesCrack 5 (some .boolean) (xr 37 0 0 1530) [.ref (kA σ 0 0), .ref (kA σ 20 ch), .int x, .int y] (kmix (kT σ f) gF) (fun r g1 => ∃ f1, r = some (.int (fn (ePut (eC σ e00 ch x y) 5 (kTemp F σ ch x y))).toInt32) ∧ g1 = kmix (kT σ f1) gF) := by
  refine xMet.of h0 (by decide +kernel) rfl ?_
  intro p e s m args below meth c hC hr hnm
  refine x_aloadr_n hC dX2_doesCrack_0 (q := 1) rfl rfl ?_
  refine x_get hC xf_X2_20_1 dX2_doesCrack_1 (q := 4) rfl (n := (0, 0)) rfl rfl ?_
  refine x_get hC xf_X2_188_2 dX2_doesCrack_4 (q := 7) rfl (n := (3, 0)) rfl rfl ?_
  refine x_ifnonnull hC dX2_doesCrack_7 (q := 10) rfl (tgt := 12) rfl (fun a7 h7 => ?_) (fun h7 => ?_)
  · refine x_aloadr_n hC dX2_doesCrack_12 (q := 13) rfl rfl ?_
    refine x_aloadr_n hC dX2_doesCrack_13 (q := 14) rfl rfl ?_
    refine x_iload_n hC dX2_doesCrack_14 (q := 15) rfl rfl ?_
    refine x_iload_n hC dX2_doesCrack_15 (q := 16) rfl rfl ?_
    refine x_callV hC xv_X2_192 dX2_doesCrack_16 (q := 19) rfl rfl (m_X2_temperOf h0 σ gF f hF ch hc x y) (nn := (0, 0)) rfl rfl rfl (Nat.le_of_ble_eq_true rfl) ⟨(Nat.le_of_ble_eq_true rfl), (Nat.le_of_ble_eq_true rfl)⟩ ⟨(Nat.le_of_ble_eq_true rfl), (Nat.le_of_ble_eq_true rfl)⟩ (fun v g1 hp => ?_)
    obtain ⟨f1, rfl, hg1⟩ := hp
    replace hg1 := hg1.symm
    subst hg1
    refine x_istore hC dX2_doesCrack_19 (q := 21) rfl rfl ?_
    refine x_aloadr_n hC dX2_doesCrack_21 (q := 22) rfl rfl ?_
    refine x_aloadr_n hC dX2_doesCrack_22 (q := 23) rfl rfl ?_
    refine x_iload_n hC dX2_doesCrack_23 (q := 24) rfl rfl ?_
    refine x_iload_n hC dX2_doesCrack_24 (q := 25) rfl rfl ?_
    refine x_callV hC xv_X2_180 dX2_doesCrack_25 (q := 28) rfl rfl (m_X2_asked_2 h0 σ gF _ ch hc x y) (nn := (0, 0)) rfl rfl rfl (Nat.le_of_ble_eq_true rfl) ⟨(Nat.le_of_ble_eq_true rfl), (Nat.le_of_ble_eq_true rfl)⟩ ⟨(Nat.le_of_ble_eq_true rfl), (Nat.le_of_ble_eq_true rfl)⟩ (fun v g1 hp => ?_)
    obtain ⟨rfl, hg1⟩ := hp
    replace hg1 := hg1.symm
    subst hg1
    refine x_get hC xf_X2_157_3 dX2_doesCrack_28 (q := 31) rfl (n := (8, 0)) rfl rfl ?_
    refine x_iconst hC dX2_doesCrack_31 (q := 32) rfl (v := (5)) (by decide) ?_
    refine x_iload hC dX2_doesCrack_32 (q := 34) rfl rfl ?_
    refine x_i2l hC dX2_doesCrack_34 (q := 35) rfl ?_
    refine x_last hC dX2_doesCrack_35 (q := 36) rfl (n := (9, 0)) rfl rfl (j := 5) rfl (by decide) (by decide) ?_
    refine x_geq kf_ask ?_
    refine x_aloadr_n hC dX2_doesCrack_36 (q := 37) rfl rfl ?_
    refine x_get hC xf_X2_20_1 dX2_doesCrack_37 (q := 40) rfl (n := (0, 0)) rfl rfl ?_
    refine x_get hC xf_X2_188_2 dX2_doesCrack_40 (q := 43) rfl (n := (3, 0)) rfl rfl ?_
    refine x_steq (st1 := [.ref at0]) (by show [va_rf (kO σ 2 2 0)] = _; rw [hn]; rfl) ?_
    refine x_aloadr_n hC dX2_doesCrack_43 (q := 44) rfl rfl ?_
    refine x_get hC xf_X2_41_1 dX2_doesCrack_44 (q := 47) rfl (n := (0, 0)) rfl rfl ?_
    obtain ⟨Cv, yv, bv, Lv, civ, nv, fsv, hgv, hxv, hcv, hfv, ⟨hLv, hokv⟩, hMv⟩ := (kEv h0 σ gF (_)).2 _ _ (aR_kmix _ hR)
    refine x_callF hC q1571 hfv dX2_doesCrack_47 (q := 52) rfl rfl hMv (nn := nv) hgv hxv rfl (Nat.le_of_ble_eq_true rfl) ⟨by dsimp only; omega, by dsimp only; omega⟩ ⟨Nat.le_refl _, Nat.le_refl _⟩ (fun v g1 hp => ?_) hokv
    obtain ⟨rfl, hg1⟩ := hp
    replace hg1 := hg1.symm
    subst hg1
    exact x_zret hC hr (nar01 (aR_01 hR _)) dX2_doesCrack_52 (Nat.le_of_ble_eq_true rfl) (Nat.le_of_ble_eq_true rfl) ⟨_, by rw [← hd _ _ (eC5_dep σ f1 ch x y _)], rfl⟩
  · exact absurd (hn.symm.trans h7) (by simp)

theorem m_X2_doesCrack {l : Launch} {s0 : State} {D : va_G} (h0 : x0 l s0 D) (σ : KS) (gF : xG) (f : aEnv) {F : Nat → Option (aEnv → Int64)} (hF : kF gF σ F) (ch : Nat) (hc : ch < kA σ 61 0) (x y : Int32) : xMet l s0 D yX2_doesCrack cX2_doesCrack 5 (some .boolean) (xr 37 0 0 1530) [.ref (kA σ 0 0), .ref (kA σ 20 ch), .int x, .int y] (kmix (kT σ f) gF) (fun r g1 => ∃ f1, r = some (.int (kCrack F σ ch x y)) ∧ g1 = kmix (kT σ f1) gF) := by
  unfold kCrack
  rcases hF 2 (by decide) with ⟨h1, h2⟩ | ⟨a, fn, h1, h2, h3, h4⟩
  · rw [h2]
    exact xMet.post (m_X2_doesCrack_n h0 σ gF f ch hc x y h1) (fun v g1 h => ⟨f, h⟩)
  · rw [h2]
    exact m_X2_doesCrack_s h0 σ gF f hF ch hc x y h1 h3 h4

set_option maxHeartbeats 4000000 in
set_option maxRecDepth 100000 in
theorem m_X2_doStick_n {l : Launch} {s0 : State} {D : va_G} (h0 : x0 l s0 D) (σ : KS) (gF : xG) (f : aEnv) (c1 c2 : Nat) (hc1 : c1 < kA σ 61 0) (hc2 : c2 < kA σ 61 0) (x y z : Int32) (hn : kO σ 2 3 0 = none) : xMet l s0 D yX2_doStick cX2_doStick 7 (some .boolean) (xr 36 0 0 1500) [.ref (kA σ 0 0), .ref (kA σ 20 c1), .int x, .ref (kA σ 20 c2), .int y, .int z] (kmix (kT σ f) gF) (fun r g1 => r = some (.int 0) ∧ g1 = kmix (kT σ f) gF) := by
  refine xMet.of h0 (by decide +kernel) rfl ?_
  intro p e s m args below meth c hC hr hnm
  refine x_aloadr_n hC dX2_doStick_0 (q := 1) rfl rfl ?_
  refine x_get hC xf_X2_20_1 dX2_doStick_1 (q := 4) rfl (n := (0, 0)) rfl rfl ?_
  refine x_get hC xf_X2_202_2 dX2_doStick_4 (q := 7) rfl (n := (3, 0)) rfl rfl ?_
  refine x_ifnonnull hC dX2_doStick_7 (q := 10) rfl (tgt := 12) rfl (fun a7 h7 => ?_) (fun h7 => ?_)
  · exact absurd (hn.symm.trans h7) (by simp)
  refine x_iconst hC dX2_doStick_10 (q := 11) rfl (v := (0)) (by decide) ?_
  exact x_zret hC hr rfl dX2_doStick_11 (Nat.le_of_ble_eq_true rfl) (Nat.le_of_ble_eq_true rfl) ⟨rfl, rfl⟩

set_option maxHeartbeats 4000000 in
set_option maxRecDepth 100000 in
theorem m_X2_doStick_s {l : Launch} {s0 : State} {D : va_G} (h0 : x0 l s0 D) (σ : KS) (gF : xG) (f : aEnv) (c1 c2 : Nat) (hc1 : c1 < kA σ 61 0) (hc2 : c2 < kA σ 61 0) (x y z : Int32) {at0 : Nat} {fn : aEnv → Int64} (hn : kO σ 2 3 0 = some at0) (hR : aR gF 6 true at0 fn) : xMet l s0 D yX2_doStick cX2_doStick 7 (some .boolean) (xr 36 0 0 1500) [.ref (kA σ 0 0), .ref (kA σ 20 c1), .int x, .ref (kA σ 20 c2), .int y, .int z] (kmix (kT σ f) gF) (fun r g1 => ∃ f1, r = some (.int (fn (ePut (ePut (eW σ f z) 6 (if 0 ≤ x - y then x - y else -(x - y))) 7 (iI (kI σ 32 c1) + iI (kI σ 32 c2)))).toInt32) ∧ g1 = kmix (kT σ f1) gF) := by
  refine xMet.of h0 (by decide +kernel) rfl ?_
  intro p e s m args below meth c hC hr hnm
  refine x_aloadr_n hC dX2_doStick_0 (q := 1) rfl rfl ?_
  refine x_get hC xf_X2_20_1 dX2_doStick_1 (q := 4) rfl (n := (0, 0)) rfl rfl ?_
  refine x_get hC xf_X2_202_2 dX2_doStick_4 (q := 7) rfl (n := (3, 0)) rfl rfl ?_
  refine x_ifnonnull hC dX2_doStick_7 (q := 10) rfl (tgt := 12) rfl (fun a7 h7 => ?_) (fun h7 => ?_)
  · refine x_aloadr_n hC dX2_doStick_12 (q := 13) rfl rfl ?_
    refine x_iload hC dX2_doStick_13 (q := 15) rfl rfl ?_
    refine x_callV hC xv_X2_160 dX2_doStick_15 (q := 18) rfl rfl (m_X2_asked h0 σ gF f z) (nn := (0, 0)) rfl rfl rfl (Nat.le_of_ble_eq_true rfl) ⟨(Nat.le_of_ble_eq_true rfl), (Nat.le_of_ble_eq_true rfl)⟩ ⟨(Nat.le_of_ble_eq_true rfl), (Nat.le_of_ble_eq_true rfl)⟩ (fun v g1 hp => ?_)
    obtain ⟨rfl, hg1⟩ := hp
    replace hg1 := hg1.symm
    subst hg1
    refine x_astorer hC dX2_doStick_18 (q := 20) rfl rfl ?_
    refine x_aloadr hC dX2_doStick_20 (q := 22) rfl rfl ?_
    refine x_bipush hC dX2_doStick_22 (q := 24) rfl (v := (6)) (by decide) ?_
    refine x_iload_n hC dX2_doStick_24 (q := 25) rfl rfl ?_
    refine x_iload hC dX2_doStick_25 (q := 27) rfl rfl ?_
    refine x_isub hC dX2_doStick_27 (q := 28) rfl ?_
    refine x_callS hC xv_X2_205 dX2_doStick_28 (q := 31) rfl rfl (m_J0_abs h0 _ _) rfl (Nat.le_of_ble_eq_true rfl) ⟨(Nat.le_of_ble_eq_true rfl), (Nat.le_of_ble_eq_true rfl)⟩ ⟨(Nat.le_of_ble_eq_true rfl), (Nat.le_of_ble_eq_true rfl)⟩ (fun v g1 hp => ?_)
    obtain ⟨rfl, hg1⟩ := hp
    replace hg1 := hg1.symm
    subst hg1
    refine x_i2l hC dX2_doStick_31 (q := 32) rfl ?_
    refine x_last hC dX2_doStick_32 (q := 33) rfl (n := (9, 0)) rfl rfl (j := 6) rfl (by decide) (by decide) ?_
    refine x_geq kf_ask ?_
    refine x_aloadr hC dX2_doStick_33 (q := 35) rfl rfl ?_
    refine x_bipush hC dX2_doStick_35 (q := 37) rfl (v := (7)) (by decide) ?_
    refine x_aloadr_n hC dX2_doStick_37 (q := 38) rfl rfl ?_
    refine x_get hC xf_X2_167_5 dX2_doStick_38 (q := 41) rfl (n := (20, c1)) (kg_20 c1 hc1) rfl ?_
    refine x_aloadr_n hC dX2_doStick_41 (q := 42) rfl rfl ?_
    refine x_get hC xf_X2_167_5 dX2_doStick_42 (q := 45) rfl (n := (20, c2)) (kg_20 c2 hc2) rfl ?_
    refine x_iadd hC dX2_doStick_45 (q := 46) rfl ?_
    refine x_i2l hC dX2_doStick_46 (q := 47) rfl ?_
    refine x_last hC dX2_doStick_47 (q := 48) rfl (n := (9, 0)) rfl rfl (j := 7) rfl (by decide) (by decide) ?_
    refine x_geq kf_ask ?_
    refine x_aloadr_n hC dX2_doStick_48 (q := 49) rfl rfl ?_
    refine x_get hC xf_X2_20_1 dX2_doStick_49 (q := 52) rfl (n := (0, 0)) rfl rfl ?_
    refine x_get hC xf_X2_202_2 dX2_doStick_52 (q := 55) rfl (n := (3, 0)) rfl rfl ?_
    refine x_steq (st1 := [.ref at0]) (by show [va_rf (kO σ 2 3 0)] = _; rw [hn]; rfl) ?_
    refine x_aloadr_n hC dX2_doStick_55 (q := 56) rfl rfl ?_
    refine x_get hC xf_X2_41_1 dX2_doStick_56 (q := 59) rfl (n := (0, 0)) rfl rfl ?_
    obtain ⟨Cv, yv, bv, Lv, civ, nv, fsv, hgv, hxv, hcv, hfv, ⟨hLv, hokv⟩, hMv⟩ := (kEv h0 σ gF (_)).2 _ _ (aR_kmix _ hR)
    refine x_callF hC q1571 hfv dX2_doStick_59 (q := 64) rfl rfl hMv (nn := nv) hgv hxv rfl (Nat.le_of_ble_eq_true rfl) ⟨by dsimp only; omega, by dsimp only; omega⟩ ⟨Nat.le_refl _, Nat.le_refl _⟩ (fun v g1 hp => ?_) hokv
    obtain ⟨rfl, hg1⟩ := hp
    replace hg1 := hg1.symm
    subst hg1
    exact x_zret hC hr (nar01 (aR_01 hR _)) dX2_doStick_64 (Nat.le_of_ble_eq_true rfl) (Nat.le_of_ble_eq_true rfl) ⟨_, rfl, rfl⟩
  · exact absurd (hn.symm.trans h7) (by simp)

theorem m_X2_doStick {l : Launch} {s0 : State} {D : va_G} (h0 : x0 l s0 D) (σ : KS) (gF : xG) (f : aEnv) {F : Nat → Option (aEnv → Int64)} (hF : kF gF σ F) (c1 c2 : Nat) (hc1 : c1 < kA σ 61 0) (hc2 : c2 < kA σ 61 0) (x y z : Int32) : xMet l s0 D yX2_doStick cX2_doStick 7 (some .boolean) (xr 36 0 0 1500) [.ref (kA σ 0 0), .ref (kA σ 20 c1), .int x, .ref (kA σ 20 c2), .int y, .int z] (kmix (kT σ f) gF) (fun r g1 => ∃ f1, r = some (.int (kStick F σ c1 x c2 y z)) ∧ g1 = kmix (kT σ f1) gF) := by
  unfold kStick
  rcases hF 3 (by decide) with ⟨h1, h2⟩ | ⟨a, fn, h1, h2, h3, h4⟩
  · rw [h2]
    exact xMet.post (m_X2_doStick_n h0 σ gF f c1 c2 hc1 hc2 x y z h1) (fun v g1 h => ⟨f, h⟩)
  · rw [h2]
    refine xMet.post (m_X2_doStick_s h0 σ gF f c1 c2 hc1 hc2 x y z h1 h3) (fun v g1 h => ?_)
    obtain ⟨f1, e1, e2⟩ := h
    exact ⟨f1, by rw [e1, h4 _ _ (eS_dep σ f z _ _)], e2⟩
