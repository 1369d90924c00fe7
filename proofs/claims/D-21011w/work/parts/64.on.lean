/-! on -/
/-- what a tape tells of the children, laid as a spot lays it; of the heats -/
def kWt (b : Nat → Nat) (j : Nat) : Int32 := match j % 5 with
  | 0 => nI (b (4 + 6 * (j / 5) + 1))
  | 1 => nI (b (4 + 6 * (j / 5) + 2))
  | 2 => if b (4 + 6 * (j / 5) + 3) = 255 then -1 else nI (b (4 + 6 * (j / 5) + 3))
  | 3 => nI (b (4 + 6 * (j / 5) + 4))
  | _ => nI (b (4 + 6 * (j / 5) + 5))
def kHtt (b : Nat → Nat) (n j : Nat) : Int32 := if b (4 + 6 * n + j) = 255 then -1 else nI (b (4 + 6 * n + j))
def kWt5 (b : Nat → Nat) (c : Nat) : Nat → Int32
  | 0 => nI (b (4 + 6 * c + 1))
  | 1 => nI (b (4 + 6 * c + 2))
  | 2 => if b (4 + 6 * c + 3) = 255 then -1 else nI (b (4 + 6 * c + 3))
  | 3 => nI (b (4 + 6 * c + 4))
  | _ => nI (b (4 + 6 * c + 5))
theorem kWt_at (b : Nat → Nat) (c r : Nat) (hr : r < 5) : kWt b (5 * c + r) = kWt5 b c r := by
  have e1 : (5 * c + r) % 5 = r := by omega
  have e2 : (5 * c + r) / 5 = c := by omega
  unfold kWt kWt5
  rw [e1, e2]
section ONE
variable {σ : KS}
theorem kIb_c {c : Nat} (hc : c < kA σ 61 0) {r : Nat} (hr : r < 6) : kIb σ (4 + 6 * c + r) = kBy6 σ c r := by
  unfold kIb
  rw [if_pos (by unfold kIml; omega), kByt_c σ hc hr]
theorem k255_or {z : Int} (h : -1 ≤ z ∧ z ≤ 99) : (if k255 z = 255 then -1 else nI (k255 z)) = iI z := by
  unfold k255
  by_cases e : z = -1
  · rw [if_pos e, if_pos rfl, e]; rfl
  · rw [if_neg e, if_neg (by omega), ← iI_nat, Int.toNat_of_nonneg (by omega)]
/-- the image tells what a spot would -/
theorem kIn_t (hw : KW σ) (hp : KPl σ) (hn : KNb σ) {Y : KS} (ha : kA Y = kA σ) {c : Nat} (hc : c < kA σ 61 0) : kIn (kWt (kIb σ)) Y c = kIn (kWf σ (kA σ 61 0)) Y c := by
  obtain ⟨n1, n2, n3⟩ := hn.1 c hc
  have h61 := hw.1
  have h62 := hw.2.1
  have f0 : kWf σ (kA σ 61 0) (5 * c) = kKil σ c := (kWf_5 (j := 0) hc (by decide)).trans (kWas_k c 0 (by decide))
  have f1 : kWf σ (kA σ 61 0) (5 * c + 1) = iI (kI σ 33 c) := (kWf_5 hc (by decide)).trans (kWas_k c 1 (by decide))
  have f2 : kWf σ (kA σ 61 0) (5 * c + 2) = iI (kI σ 34 c) := (kWf_5 hc (by decide)).trans (kWas_k c 2 (by decide))
  have f3 : kWf σ (kA σ 61 0) (5 * c + 3) = (if iI (kI σ 36 c) = 0 then 0 else 1) := (kWf_5 hc (by decide)).trans (kWas_k c 3 (by decide))
  have f4 : kWf σ (kA σ 61 0) (5 * c + 4) = iI (kI σ 35 c) := (kWf_5 hc (by decide)).trans (kWas_k c 4 (by decide))
  have t0 : kWt (kIb σ) (5 * c) = nI (kBy6 σ c 1) := (kWt_at _ c 0 (by decide)).trans (by show nI (kIb σ (4 + 6 * c + 1)) = _; rw [kIb_c hc (by decide)])
  have t1 : kWt (kIb σ) (5 * c + 1) = nI (kBy6 σ c 2) := (kWt_at _ c 1 (by decide)).trans (by show nI (kIb σ (4 + 6 * c + 2)) = _; rw [kIb_c hc (by decide)])
  have t2 : kWt (kIb σ) (5 * c + 2) = iI (kI σ 34 c) := (kWt_at _ c 2 (by decide)).trans (by show (if kIb σ (4 + 6 * c + 3) = 255 then -1 else nI (kIb σ (4 + 6 * c + 3))) = _; rw [kIb_c hc (by decide)]; exact k255_or (by omega))
  have t3 : kWt (kIb σ) (5 * c + 3) = (if iI (kI σ 36 c) = 0 then 0 else 1) := (kWt_at _ c 3 (by decide)).trans (by
    show nI (kIb σ (4 + 6 * c + 4)) = _
    rw [kIb_c hc (by decide)]
    show nI (if iI (kI σ 36 c) = 0 then 0 else 1) = _
    split <;> rfl)
  have t4 : kWt (kIb σ) (5 * c + 4) = iI (kI σ 35 c) := (kWt_at _ c 4 (by decide)).trans (by
    show nI (kIb σ (4 + 6 * c + 5)) = _
    rw [kIb_c hc (by decide)]
    show nI (kI σ 35 c).toNat = _
    rw [← iI_nat, Int.toNat_of_nonneg n2.1])
  have hg : kGi Y c (nI (kBy6 σ c 1)) (nI (kBy6 σ c 2)) = kGi Y c (kKil σ c) (iI (kI σ 33 c)) := by
    cases hk : kO σ 0 c 0 with
    | none =>
      have hb := kBy6_none hk (hp.2.2 c hc hk)
      have hkk : kKil σ c = -1 := by unfold kKil; rw [hk]
      rw [hb.1, hkk]
      unfold kGi
      rw [ha, if_neg (fun q => absurd q.2 (by show ¬ (255 : Int) < _; omega)), if_neg (fun q => absurd q.1 (by decide))]
    | some q =>
      obtain ⟨_, p, _, hp'⟩ := hp.2.1 c q hc hk
      have hb := kBy6_some hk hp'
      have hkk : kKil σ c = nI q := by unfold kKil; rw [hk]
      rw [hb.1, hb.2, hkk, hp', iI_nat]
  unfold kIn
  rw [f0, f1, f2, f3, f4, t0, t1, t2, t3, t4, hg]
theorem kInN_t (hw : KW σ) (hp : KPl σ) (hn : KNb σ) {X : KS} (ha : kA X = kA σ) : ∀ m, m ≤ kA σ 61 0 → kInN (kWt (kIb σ)) X m = kInN (kWf σ (kA σ 61 0)) X m := by
  intro m
  induction m with
  | zero => intro _; rfl
  | succ m ih =>
    intro hm
    show kIn (kWt (kIb σ)) (kInN (kWt (kIb σ)) X m) m = kIn (kWf σ (kA σ 61 0)) (kInN (kWf σ (kA σ 61 0)) X m) m
    rw [ih (by omega)]
    exact kIn_t hw hp hn (by rw [kA_kInN, ha]) (by omega)
theorem kHtN_t (hn : KNb σ) (X : KS) : ∀ m, m ≤ kA σ 62 0 → kHtN (kHtt (kIb σ) (kA σ 61 0)) X m = kHtN (kHf σ (kA σ 62 0)) X m := by
  intro m
  induction m with
  | zero => intro _; rfl
  | succ m ih =>
    intro hm
    show kIs (kHtN (kHtt (kIb σ) (kA σ 61 0)) X m) 41 m (kHtt (kIb σ) (kA σ 61 0) m).toInt = kIs (kHtN (kHf σ (kA σ 62 0)) X m) 41 m (kHf σ (kA σ 62 0) m).toInt
    rw [ih (by omega)]
    have e : kHtt (kIb σ) (kA σ 61 0) m = kHf σ (kA σ 62 0) m := by
      unfold kHtt kHf kIb
      rw [if_pos (show 4 + 6 * kA σ 61 0 + m < kIml σ by unfold kIml; omega), kByt_q, if_pos (show m < kA σ 62 0 by omega)]
      exact k255_or (by have := hn.2 m (by omega); omega)
    rw [e]
theorem kWok_t (hw : KW σ) (hp : KPl σ) : kWok (kWt (kIb σ)) (kA σ 61 0) (kA σ 62 0) := by
  intro c hc h1 h2
  have h62 := hw.2.1
  have t0 : kWt (kIb σ) (5 * c) = nI (kBy6 σ c 1) := (kWt_at _ c 0 (by decide)).trans (by show nI (kIb σ (4 + 6 * c + 1)) = _; rw [kIb_c hc (by decide)])
  have t1 : kWt (kIb σ) (5 * c + 1) = nI (kBy6 σ c 2) := (kWt_at _ c 1 (by decide)).trans (by show nI (kIb σ (4 + 6 * c + 2)) = _; rw [kIb_c hc (by decide)])
  rw [t0] at h1 h2
  cases hk : kO σ 0 c 0 with
  | none =>
    rw [(kBy6_none hk (hp.2.2 c hc hk)).1] at h2
    exact absurd h2 (by show ¬ (255 : Int) < _; omega)
  | some q =>
    obtain ⟨h3, p, h4, hp'⟩ := hp.2.1 c q hc hk
    have := hw.2.2.2.1 q h3
    exact ⟨p, by omega, by rw [t1, (kBy6_some hk hp').2]⟩
/-- the image of a state brings back that state -/
theorem kOn_back (hw : KW σ) (hp : KPl σ) (hn : KNb σ) : kBack σ (kWt (kIb σ)) (kHtt (kIb σ) (kA σ 61 0)) (kI σ 3 0) (kI σ 7 0) = σ := by
  have h := kBack_eq (kUc.refl σ) hw hp hp hn
  rw [kIs_self (σ := σ) (f := 4) (k := 0) rfl, kIs_self (σ := σ) (f := 5) (k := 0) rfl] at h
  refine Eq.trans ?_ h
  unfold kBack
  rw [kInN_t hw hp hn (by rw [kA_kOutN]; rfl) _ (Nat.le_refl _), kHtN_t hn _ _ (Nat.le_refl _)]
end ONE

theorem kV_kGo (σ : KS) (c : Nat) : kV (kGo σ c) = kV σ := by unfold kGo; split <;> rfl
theorem kV_kOutN (σ : KS) : ∀ n, kV (kOutN σ n) = kV σ := by
  intro n
  induction n with
  | zero => rfl
  | succ n ih => show kV (kGo (kOutN σ n) n) = _; rw [kV_kGo, ih]
theorem kV_kGi (σ : KS) (c : Nat) (x y : Int32) : kV (kGi σ c x y) = kV σ := by unfold kGi; split <;> rfl
theorem kV_kInN (w : Nat → Int32) (σ : KS) : ∀ n, kV (kInN w σ n) = kV σ := by
  intro n
  induction n with
  | zero => rfl
  | succ n ih => show kV (kIn w (kInN w σ n) n) = _; unfold kIn; rw [kV_kIs, kV_kIs, kV_kIs, kV_kGi, ih]
theorem kV_kHtN (w : Nat → Int32) (σ : KS) : ∀ n, kV (kHtN w σ n) = kV σ := by
  intro n
  induction n with
  | zero => rfl
  | succ n ih => show kV (kIs (kHtN w σ n) 41 n _) = _; rw [kV_kIs, ih]

set_option maxHeartbeats 4000000 in
set_option maxRecDepth 100000 in
theorem m_X2_on {l : Launch} {s0 : State} {D : va_G} (h0 : x0 l s0 D) (σ : KS) (gF : xG) (hv : KV σ) (hp : KPl σ) (hb : KTp σ) (hn : KNb σ) (hsk : KSk σ) (h3 : 0 ≤ kI σ 3 0 ∧ kI σ 3 0 ≤ 999) (h7 : 0 ≤ kI σ 7 0 ∧ kI σ 7 0 ≤ 9999) (htp : kI σ 0 0 = ((kIml σ + 1 : Nat) : Int)) : xMet l s0 D yX2_on cX2_on 5 (some .boolean) (xr 7 0 0 155) [.ref (kA σ 0 0)] (kmix σ gF) (fun r g1 => r = some (.int 1) ∧ g1 = kmix (kAs (kIs (kAs (kIs (kIs σ 0 0 0) 16 0 (kI σ 16 0 + 1)) 63 0 0) 18 0 (kI σ 18 0 + 1)) 65 0 0) gF) := by
  have hw := hv.1
  have hkw := kWok_t hw hp
  have h61 := hw.1
  have h62 := hw.2.1
  refine xMet.of h0 (by decide +kernel) rfl ?_
  intro p e s m args below meth c hC hr hnm
  refine x_aloadr_n hC dX2_on_0 (q := 1) rfl rfl ?_
  refine x_get hC xf_X2_82_1 dX2_on_1 (q := 4) rfl (n := (0, 0)) rfl rfl ?_
  refine x_steq (st1 := [.int (nI (kIml σ + 1))]) (by rw [← iI_nat]; exact congrArg (fun z => [Value.int (iI z)]) htp) ?_
  refine x_istore_n hC dX2_on_4 (q := 5) rfl rfl ?_
  refine x_aloadr_n hC dX2_on_5 (q := 6) rfl rfl ?_
  refine x_iconst hC dX2_on_6 (q := 7) rfl (v := (0)) (by decide) ?_
  refine x_put hC (n := (0, 0)) xf_X2_82_1 xd_1 rfl dX2_on_7 (q := 10) rfl rfl rfl rfl rfl ?_
  refine x_geq (kf_taped (z := 0) rfl) ?_
  refine x_aloadr_n hC dX2_on_10 (q := 11) rfl rfl ?_
  refine x_iload_n hC dX2_on_11 (q := 12) rfl rfl ?_
  refine x_callV hC xv_X2_475 dX2_on_12 (q := 15) rfl rfl (m_isTold h0 (kIs σ 0 0 0) gF hw (KPl_is hp (by decide) _ _) hb hn hsk h3 h7) (nn := (0, 0)) rfl rfl rfl (Nat.le_of_ble_eq_true rfl) ⟨(Nat.le_of_ble_eq_true rfl), (Nat.le_of_ble_eq_true rfl)⟩ ⟨(Nat.le_of_ble_eq_true rfl), (Nat.le_of_ble_eq_true rfl)⟩ (fun v g1 hp => ?_)
  obtain ⟨rfl, hg1⟩ := hp
  replace hg1 := hg1.symm
  subst hg1
  refine x_if_ne hC dX2_on_15 (q := 18) rfl (tgt := 24) rfl (fun h15 => ?_) (fun h15 => ?_)
  · refine x_aloadr_n hC dX2_on_24 (q := 25) rfl rfl ?_
    refine x_aloadr_n hC dX2_on_25 (q := 26) rfl rfl ?_
    refine x_iconst hC dX2_on_26 (q := 27) rfl (v := (0)) (by decide) ?_
    refine x_callV hC xv_X2_466 dX2_on_27 (q := 30) rfl rfl (m_X2_twoAt h0 (kIs σ 0 0 0) gF 0 (by decide) (x := (kI σ 3 0).toNat / 256) (y := (kI σ 3 0).toNat % 256) (by show kV σ 0 0 0 = _; rw [hb.b (by unfold kIml; omega)]; unfold kByt; rw [if_pos (by omega), if_pos (by decide), if_pos rfl]) (by show kV σ 0 0 (0 + 1) = _; rw [hb.b (by unfold kIml; omega)]; unfold kByt; rw [if_pos (by omega), if_pos (by decide), if_neg (by decide)])) (nn := (0, 0)) rfl rfl rfl (Nat.le_of_ble_eq_true rfl) ⟨(Nat.le_of_ble_eq_true rfl), (Nat.le_of_ble_eq_true rfl)⟩ ⟨(Nat.le_of_ble_eq_true rfl), (Nat.le_of_ble_eq_true rfl)⟩ (fun v g1 hp => ?_)
    obtain ⟨rfl, hg1⟩ := hp
    replace hg1 := hg1.symm
    subst hg1
    have hwke : nI (256 * ((kI σ 3 0).toNat / 256) + (kI σ 3 0).toNat % 256) = iI (kI σ 3 0) := by rw [show 256 * ((kI σ 3 0).toNat / 256) + (kI σ 3 0).toNat % 256 = (kI σ 3 0).toNat by omega, ← iI_nat, Int.toNat_of_nonneg h3.1]
    refine x_put hC (n := (0, 0)) xf_X2_119_1 xd_1 rfl dX2_on_30 (q := 33) rfl rfl rfl rfl rfl ?_
    refine x_geq (kf_week (z := (kI σ 3 0)) hwke) ?_
    refine x_aloadr_n hC dX2_on_33 (q := 34) rfl rfl ?_
    refine x_get hC xf_X2_20_1 dX2_on_34 (q := 37) rfl (n := (0, 0)) rfl rfl ?_
    refine x_aloadr_n hC dX2_on_37 (q := 38) rfl rfl ?_
    refine x_iconst hC dX2_on_38 (q := 39) rfl (v := (2)) (by decide) ?_
    refine x_callV hC xv_X2_466 dX2_on_39 (q := 42) rfl rfl (m_X2_twoAt h0 (kIs (kIs σ 0 0 0) 3 0 (kI σ 3 0)) gF 2 (by decide) (x := (kI σ 7 0).toNat / 256) (y := (kI σ 7 0).toNat % 256) (by show kV σ 0 0 2 = _; rw [hb.b (by unfold kIml; omega)]; unfold kByt; rw [if_pos (by omega), if_neg (by decide), if_pos (by decide), if_pos rfl]) (by show kV σ 0 0 (2 + 1) = _; rw [hb.b (by unfold kIml; omega)]; unfold kByt; rw [if_pos (by omega), if_neg (by decide), if_pos (by decide), if_neg (by decide)])) (nn := (0, 0)) rfl rfl rfl (Nat.le_of_ble_eq_true rfl) ⟨(Nat.le_of_ble_eq_true rfl), (Nat.le_of_ble_eq_true rfl)⟩ ⟨(Nat.le_of_ble_eq_true rfl), (Nat.le_of_ble_eq_true rfl)⟩ (fun v g1 hp => ?_)
    obtain ⟨rfl, hg1⟩ := hp
    replace hg1 := hg1.symm
    subst hg1
    have hfue : nI (256 * ((kI σ 7 0).toNat / 256) + (kI σ 7 0).toNat % 256) = iI (kI σ 7 0) := by rw [show 256 * ((kI σ 7 0).toNat / 256) + (kI σ 7 0).toNat % 256 = (kI σ 7 0).toNat by omega, ← iI_nat, Int.toNat_of_nonneg h7.1]
    refine x_put hC (n := (3, 0)) xf_X2_223_2 xd_2 rfl dX2_on_42 (q := 45) rfl rfl rfl rfl rfl ?_
    refine x_geq (kf_fuel (z := (kI σ 7 0)) hfue) ?_
    refine x_iconst hC dX2_on_45 (q := 46) rfl (v := (0)) (by decide) ?_
    refine x_istore_n hC dX2_on_46 (q := 47) rfl rfl ?_
    refine x_geq (g' := kmix (kOn σ (kOutN (kIs (kIs (kIs σ 0 0 0) 3 0 (kI σ 3 0)) 7 0 (kI σ 7 0)) 0)) gF) (by rw [kOn_eq (by rw [kA_kOutN]; rfl)]; rfl) ?_
    refine x_lvle (lv' := [some (.ref (kA σ 0 0)), some (.int (nI (kIml σ + 1))), some (.int (nI 0)), none, none]) (by repeat' constructor) ?_
    refine x_loop (S := (fun i => ((0 : Nat), (0 : Nat), kmix (kOn σ (kOutN (kIs (kIs (kIs σ 0 0 0) 3 0 (kI σ 3 0)) 7 0 (kI σ 7 0)) i)) gF, ([some (.ref (kA σ 0 0)), some (.int (nI (kIml σ + 1))), some (.int (nI i)), none, none] : xL), ([] : List Value)))) (Inv := fun i => i ≤ (kA σ 61 0)) (μ := fun i => (kA σ 61 0) - i) ?_ 0 (Nat.zero_le _)
    intro i hi ih
    dsimp only at ih ⊢
    refine x_iload_n hC dX2_on_47 (q := 48) rfl rfl ?_
    refine x_aloadr_n hC dX2_on_48 (q := 49) rfl rfl ?_
    refine x_callV hC xv_X2_351 dX2_on_49 (q := 52) rfl rfl (m_X2_children h0 (kOn σ (kOutN (kIs (kIs (kIs σ 0 0 0) 3 0 (kI σ 3 0)) 7 0 (kI σ 7 0)) i)) _) (nn := (0, 0)) rfl rfl rfl (Nat.le_of_ble_eq_true rfl) ⟨(Nat.le_of_ble_eq_true rfl), (Nat.le_of_ble_eq_true rfl)⟩ ⟨(Nat.le_of_ble_eq_true rfl), (Nat.le_of_ble_eq_true rfl)⟩ (fun v g1 hp => ?_)
    obtain ⟨rfl, hg1⟩ := hp
    replace hg1 := hg1.symm
    subst hg1
    refine x_icmp_ge hC dX2_on_52 (q := 55) rfl (tgt := 78) rfl (fun h52 => ?_) (fun h52 => ?_)
    · have hi3 : i = (kA σ 61 0) := by
        have := hw.1
        have h2 : nI (kA σ 61 0) ≤ nI i := h52
        have := (nI_leI (by omega) (by omega)).mp h2
        omega
      clear ih
      rw [hi3]
      refine x_iconst hC dX2_on_78 (q := 79) rfl (v := (0)) (by decide) ?_
      refine x_istore_n hC dX2_on_79 (q := 80) rfl rfl ?_
      refine x_geq (g' := kmix (kOn σ (kInN (kWt (kIb σ)) (kOutN (kIs (kIs (kIs σ 0 0 0) 3 0 (kI σ 3 0)) 7 0 (kI σ 7 0)) (kA σ 61 0)) 0)) gF) (by rw [kOn_eq (by rw [kA_kOutN]; rfl), kOn_eq (by rw [kA_kInN, kA_kOutN]; rfl)]; rfl) ?_
      refine x_lvle (lv' := [some (.ref (kA σ 0 0)), some (.int (nI (kIml σ + 1))), some (.int (nI 0)), none, none]) (by repeat' constructor) ?_
      refine x_loop (S := (fun i => ((0 : Nat), (0 : Nat), kmix (kOn σ (kInN (kWt (kIb σ)) (kOutN (kIs (kIs (kIs σ 0 0 0) 3 0 (kI σ 3 0)) 7 0 (kI σ 7 0)) (kA σ 61 0)) i)) gF, ([some (.ref (kA σ 0 0)), some (.int (nI (kIml σ + 1))), some (.int (nI i)), none, none] : xL), ([] : List Value)))) (Inv := fun i => i ≤ (kA σ 61 0)) (μ := fun i => (kA σ 61 0) - i) ?_ 0 (Nat.zero_le _)
      intro i hi ih
      dsimp only at ih ⊢
      refine x_iload_n hC dX2_on_80 (q := 81) rfl rfl ?_
      refine x_aloadr_n hC dX2_on_81 (q := 82) rfl rfl ?_
      refine x_callV hC xv_X2_351 dX2_on_82 (q := 85) rfl rfl (m_X2_children h0 (kOn σ (kInN (kWt (kIb σ)) (kOutN (kIs (kIs (kIs σ 0 0 0) 3 0 (kI σ 3 0)) 7 0 (kI σ 7 0)) (kA σ 61 0)) i)) _) (nn := (0, 0)) rfl rfl rfl (Nat.le_of_ble_eq_true rfl) ⟨(Nat.le_of_ble_eq_true rfl), (Nat.le_of_ble_eq_true rfl)⟩ ⟨(Nat.le_of_ble_eq_true rfl), (Nat.le_of_ble_eq_true rfl)⟩ (fun v g1 hp => ?_)
      obtain ⟨rfl, hg1⟩ := hp
      replace hg1 := hg1.symm
      subst hg1
      refine x_icmp_ge hC dX2_on_85 (q := 88) rfl (tgt := 194) rfl (fun h85 => ?_) (fun h85 => ?_)
      · have hi3 : i = (kA σ 61 0) := by
          have := hw.1
          have h2 : nI (kA σ 61 0) ≤ nI i := h85
          have := (nI_leI (by omega) (by omega)).mp h2
          omega
        clear ih
        rw [hi3]
        refine x_iconst hC dX2_on_194 (q := 195) rfl (v := (0)) (by decide) ?_
        refine x_istore_n hC dX2_on_195 (q := 196) rfl rfl ?_
        refine x_geq (g' := kmix (kOn σ (kHtN (kHtt (kIb σ) (kA σ 61 0)) (kInN (kWt (kIb σ)) (kOutN (kIs (kIs (kIs σ 0 0 0) 3 0 (kI σ 3 0)) 7 0 (kI σ 7 0)) (kA σ 61 0)) (kA σ 61 0)) 0)) gF) (by rw [kOn_eq (by rw [kA_kInN, kA_kOutN]; rfl), kOn_eq (by rw [kA_kHtN, kA_kInN, kA_kOutN]; rfl)]; rfl) ?_
        refine x_lvle (lv' := [some (.ref (kA σ 0 0)), some (.int (nI (kIml σ + 1))), some (.int (nI 0)), none, none]) (by repeat' constructor) ?_
        refine x_loop (S := (fun i => ((0 : Nat), (0 : Nat), kmix (kOn σ (kHtN (kHtt (kIb σ) (kA σ 61 0)) (kInN (kWt (kIb σ)) (kOutN (kIs (kIs (kIs σ 0 0 0) 3 0 (kI σ 3 0)) 7 0 (kI σ 7 0)) (kA σ 61 0)) (kA σ 61 0)) i)) gF, ([some (.ref (kA σ 0 0)), some (.int (nI (kIml σ + 1))), some (.int (nI i)), none, none] : xL), ([] : List Value)))) (Inv := fun i => i ≤ (kA σ 62 0)) (μ := fun i => (kA σ 62 0) - i) ?_ 0 (Nat.zero_le _)
        intro i hi ih
        dsimp only at ih ⊢
        refine x_iload_n hC dX2_on_196 (q := 197) rfl rfl ?_
        refine x_aloadr_n hC dX2_on_197 (q := 198) rfl rfl ?_
        refine x_callV hC xv_X2_232 dX2_on_198 (q := 201) rfl rfl (m_X2_kilns h0 (kOn σ (kHtN (kHtt (kIb σ) (kA σ 61 0)) (kInN (kWt (kIb σ)) (kOutN (kIs (kIs (kIs σ 0 0 0) 3 0 (kI σ 3 0)) 7 0 (kI σ 7 0)) (kA σ 61 0)) (kA σ 61 0)) i)) _) (nn := (0, 0)) rfl rfl rfl (Nat.le_of_ble_eq_true rfl) ⟨(Nat.le_of_ble_eq_true rfl), (Nat.le_of_ble_eq_true rfl)⟩ ⟨(Nat.le_of_ble_eq_true rfl), (Nat.le_of_ble_eq_true rfl)⟩ (fun v g1 hp => ?_)
        obtain ⟨rfl, hg1⟩ := hp
        replace hg1 := hg1.symm
        subst hg1
        refine x_icmp_ge hC dX2_on_201 (q := 204) rfl (tgt := 246) rfl (fun h201 => ?_) (fun h201 => ?_)
        · have hi3 : i = (kA σ 62 0) := by
            have := hw.2.1
            have h2 : nI (kA σ 62 0) ≤ nI i := h201
            have := (nI_leI (by omega) (by omega)).mp h2
            omega
          clear ih
          rw [hi3]
          refine x_geq (g' := kmix (kIs σ 0 0 0) gF) (by rw [kOn_eq (by rw [kA_kHtN, kA_kInN, kA_kOutN]; rfl)]; exact congrArg (fun q => kmix q gF) (kOn_back (σ := (kIs σ 0 0 0)) hw (KPl_is hp (by decide) _ _) hn)) ?_
          refine x_aloadr_n hC dX2_on_246 (q := 247) rfl rfl ?_
          refine x_get hC xf_X2_31_1 dX2_on_247 (q := 250) rfl (n := (0, 0)) rfl rfl ?_
          refine x_callV hC xv_X2_122 dX2_on_250 (q := 253) rfl rfl (m_told_clear h0 (kIs σ 0 0 0) gF (hw.2.2.1 63 (by decide) (by decide))) (nn := (10, 0)) rfl rfl rfl (Nat.le_of_ble_eq_true rfl) ⟨(Nat.le_of_ble_eq_true rfl), (Nat.le_of_ble_eq_true rfl)⟩ ⟨(Nat.le_of_ble_eq_true rfl), (Nat.le_of_ble_eq_true rfl)⟩ (fun v g1 hp => ?_)
          obtain ⟨rfl, hg1⟩ := hp
          replace hg1 := hg1.symm
          subst hg1
          refine x_aloadr_n hC dX2_on_253 (q := 254) rfl rfl ?_
          refine x_get hC xf_X2_45_1 dX2_on_254 (q := 257) rfl (n := (0, 0)) rfl rfl ?_
          refine x_callV hC xv_X2_122 dX2_on_257 (q := 260) rfl rfl (m_acts_clear h0 (kAs (kIs (kIs σ 0 0 0) 16 0 (kI σ 16 0 + 1)) 63 0 0) gF (hw.2.2.1 65 (by decide) (by decide))) (nn := (16, 0)) rfl rfl rfl (Nat.le_of_ble_eq_true rfl) ⟨(Nat.le_of_ble_eq_true rfl), (Nat.le_of_ble_eq_true rfl)⟩ ⟨(Nat.le_of_ble_eq_true rfl), (Nat.le_of_ble_eq_true rfl)⟩ (fun v g1 hp => ?_)
          obtain ⟨rfl, hg1⟩ := hp
          replace hg1 := hg1.symm
          subst hg1
          refine x_iconst hC dX2_on_260 (q := 261) rfl (v := (1)) (by decide) ?_
          exact x_zret hC hr rfl dX2_on_261 (Nat.le_of_ble_eq_true rfl) (Nat.le_of_ble_eq_true rfl) ⟨rfl, rfl⟩
        have hi2 : i < (kA σ 62 0) := Nat.lt_of_not_le (fun q => h201 (show nI (kA σ 62 0) ≤ nI i from nI_le q (by have := hw.2.1; omega)))
        have hn8 := hw.2.1
        refine x_aloadr_n hC dX2_on_204 (q := 205) rfl rfl ?_
        refine x_get hC xf_X2_20_1 dX2_on_205 (q := 208) rfl (n := (0, 0)) rfl rfl ?_
        refine x_get hC xf_X2_152_2 dX2_on_208 (q := 211) rfl (n := (3, 0)) rfl rfl ?_
        refine x_iload_n hC dX2_on_211 (q := 212) rfl rfl ?_
        refine x_callV hC xv_X2_139 dX2_on_212 (q := 215) rfl rfl (m_kilnAt h0 (kOn σ (kHtN (kHtt (kIb σ) (kA σ 61 0)) (kInN (kWt (kIb σ)) (kOutN (kIs (kIs (kIs σ 0 0 0) 3 0 (kI σ 3 0)) 7 0 (kI σ 7 0)) (kA σ 61 0)) (kA σ 61 0)) i)) _ hw.c62 i hi2) (nn := (6, 0)) rfl rfl rfl (Nat.le_of_ble_eq_true rfl) ⟨(Nat.le_of_ble_eq_true rfl), (Nat.le_of_ble_eq_true rfl)⟩ ⟨(Nat.le_of_ble_eq_true rfl), (Nat.le_of_ble_eq_true rfl)⟩ (fun v g1 hp => ?_)
        obtain ⟨rfl, hg1⟩ := hp
        replace hg1 := hg1.symm
        subst hg1
        have hVC : kV (kHtN (kHtt (kIb σ) (kA σ 61 0)) (kInN (kWt (kIb σ)) (kOutN (kIs (kIs (kIs σ 0 0 0) 3 0 (kI σ 3 0)) 7 0 (kI σ 7 0)) (kA σ 61 0)) (kA σ 61 0)) i) = kV σ := (kV_kHtN _ _ i).trans ((kV_kInN _ _ _).trans (kV_kOutN _ _))
        refine x_castS hC q1361 rfl dX2_on_215 (q := 218) rfl (n := (21, i)) (kg_21 (σ := (kOn σ (kHtN (kHtt (kIb σ) (kA σ 61 0)) (kInN (kWt (kIb σ)) (kOutN (kIs (kIs (kIs σ 0 0 0) 3 0 (kI σ 3 0)) 7 0 (kI σ 7 0)) (kA σ 61 0)) (kA σ 61 0)) i))) i hi2) ?_
        refine x_aloadr_n hC dX2_on_218 (q := 219) rfl rfl ?_
        refine x_get hC xf_X2_9_1 dX2_on_219 (q := 222) rfl (n := (0, 0)) rfl rfl ?_
        refine x_iconst hC dX2_on_222 (q := 223) rfl (v := (4)) (by decide) ?_
        refine x_bipush hC dX2_on_223 (q := 225) rfl (v := (6)) (by decide) ?_
        refine x_aloadr_n hC dX2_on_225 (q := 226) rfl rfl ?_
        refine x_callV hC xv_X2_351 dX2_on_226 (q := 229) rfl rfl (m_X2_children h0 (kOn σ (kHtN (kHtt (kIb σ) (kA σ 61 0)) (kInN (kWt (kIb σ)) (kOutN (kIs (kIs (kIs σ 0 0 0) 3 0 (kI σ 3 0)) 7 0 (kI σ 7 0)) (kA σ 61 0)) (kA σ 61 0)) i)) _) (nn := (0, 0)) rfl rfl rfl (Nat.le_of_ble_eq_true rfl) ⟨(Nat.le_of_ble_eq_true rfl), (Nat.le_of_ble_eq_true rfl)⟩ ⟨(Nat.le_of_ble_eq_true rfl), (Nat.le_of_ble_eq_true rfl)⟩ (fun v g1 hp => ?_)
        obtain ⟨rfl, hg1⟩ := hp
        replace hg1 := hg1.symm
        subst hg1
        refine x_imul hC dX2_on_229 (q := 230) rfl ?_
        refine x_iadd hC dX2_on_230 (q := 231) rfl ?_
        refine x_iload_n hC dX2_on_231 (q := 232) rfl rfl ?_
        refine x_iadd hC dX2_on_232 (q := 233) rfl ?_
        refine x_cald hC dX2_on_233 (q := 234) rfl (n := (1, 0)) rfl (j := 4 + 6 * (kA σ 61 0) + i) (by rw [show (6 : Int32) = nI 6 from rfl, show nI (kA (kOn σ (kHtN (kHtt (kIb σ) (kA σ 61 0)) (kInN (kWt (kIb σ)) (kOutN (kIs (kIs (kIs σ 0 0 0) 3 0 (kI σ 3 0)) 7 0 (kI σ 7 0)) (kA σ 61 0)) (kA σ 61 0)) i)) 61 0) = nI (kA σ 61 0) from rfl, pk_mul]; exact (congrArg (fun z => z + nI i) (nI_add 4 (6 * (kA σ 61 0)))).trans (nI_add _ _)) (by have := hw.1; omega) (by decide) ?_
        refine x_steq (st1 := [.int (nI (kIb σ (4 + 6 * (kA σ 61 0) + i))), .ref (kA σ 21 i)]) (by exact congrArg (fun z => [Value.int z, .ref (kA σ 21 i)]) (show iI (kV (kHtN (kHtt (kIb σ) (kA σ 61 0)) (kInN (kWt (kIb σ)) (kOutN (kIs (kIs (kIs σ 0 0 0) 3 0 (kI σ 3 0)) 7 0 (kI σ 7 0)) (kA σ 61 0)) (kA σ 61 0)) i) 0 0 (4 + 6 * (kA σ 61 0) + i)) = _ by rw [hVC, hb _ (by unfold kIml; omega), iI_nat])) ?_
        refine x_callS hC xv_X2_478 dX2_on_234 (q := 237) rfl rfl (m_X2_orNone h0 _ (kIb σ (4 + 6 * (kA σ 61 0) + i)) (by unfold kIb; rw [if_pos (by unfold kIml; omega)]; exact kByt_lt hw hp hn h3 h7 (by unfold kIml; omega))) rfl (Nat.le_of_ble_eq_true rfl) ⟨(Nat.le_of_ble_eq_true rfl), (Nat.le_of_ble_eq_true rfl)⟩ ⟨(Nat.le_of_ble_eq_true rfl), (Nat.le_of_ble_eq_true rfl)⟩ (fun v g1 hp => ?_)
        obtain ⟨rfl, hg1⟩ := hp
        replace hg1 := hg1.symm
        subst hg1
        refine x_put hC (n := (21, i)) xf_X2_211_6 xd_6 rfl dX2_on_237 (q := 240) rfl (kg_21 (σ := (kOn σ (kHtN (kHtt (kIb σ) (kA σ 61 0)) (kInN (kWt (kIb σ)) (kOutN (kIs (kIs (kIs σ 0 0 0) 3 0 (kI σ 3 0)) 7 0 (kI σ 7 0)) (kA σ 61 0)) (kA σ 61 0)) i))) i hi2) rfl rfl rfl ?_
        refine x_geq (kf_heat (z := ((kHtt (kIb σ) (kA σ 61 0)) i).toInt) (iI_self _).symm hi2) ?_
        refine x_iinc hC dX2_on_240 (q := 243) rfl rfl (v := nI (i + 1)) (nI_1 i) ?_
        refine x_goto hC dX2_on_243 (tgt := 196) rfl ?_
        refine x_geq (g' := kmix (kOn σ (kHtN (kHtt (kIb σ) (kA σ 61 0)) (kInN (kWt (kIb σ)) (kOutN (kIs (kIs (kIs σ 0 0 0) 3 0 (kI σ 3 0)) 7 0 (kI σ 7 0)) (kA σ 61 0)) (kA σ 61 0)) (i + 1))) gF) (by rw [kOn_eq (by rw [kA_kHtN, kA_kInN, kA_kOutN]; rfl), kOn_eq (by rw [kA_kHtN, kA_kInN, kA_kOutN]; rfl)]; rfl) ?_
        refine x_lvle (lv' := [some (.ref (kA σ 0 0)), some (.int (nI (kIml σ + 1))), some (.int (nI (i + 1))), none, none]) (by repeat' constructor) ?_
        exact ih (i + 1) (by omega) (by omega)
      have hi2 : i < (kA σ 61 0) := Nat.lt_of_not_le (fun q => h85 (show nI (kA σ 61 0) ≤ nI i from nI_le q (by have := hw.1; omega)))
      have hn8 := hw.1
      refine x_aloadr_n hC dX2_on_88 (q := 89) rfl rfl ?_
      refine x_get hC xf_X2_20_1 dX2_on_89 (q := 92) rfl (n := (0, 0)) rfl rfl ?_
      refine x_get hC xf_X2_143_2 dX2_on_92 (q := 95) rfl (n := (3, 0)) rfl rfl ?_
      refine x_iload_n hC dX2_on_95 (q := 96) rfl rfl ?_
      refine x_callV hC xv_X2_139 dX2_on_96 (q := 99) rfl rfl (m_childAt h0 (kOn σ (kInN (kWt (kIb σ)) (kOutN (kIs (kIs (kIs σ 0 0 0) 3 0 (kI σ 3 0)) 7 0 (kI σ 7 0)) (kA σ 61 0)) i)) _ hw.c61 i hi2) (nn := (4, 0)) rfl rfl rfl (Nat.le_of_ble_eq_true rfl) ⟨(Nat.le_of_ble_eq_true rfl), (Nat.le_of_ble_eq_true rfl)⟩ ⟨(Nat.le_of_ble_eq_true rfl), (Nat.le_of_ble_eq_true rfl)⟩ (fun v g1 hp => ?_)
      obtain ⟨rfl, hg1⟩ := hp
      replace hg1 := hg1.symm
      subst hg1
      have hVB : kV (kInN (kWt (kIb σ)) (kOutN (kIs (kIs (kIs σ 0 0 0) 3 0 (kI σ 3 0)) 7 0 (kI σ 7 0)) (kA σ 61 0)) i) = kV σ := kV_kInN _ _ i |>.trans (kV_kOutN _ _)
      have hby (r : Nat) (hr : r < 6) : iI (kV (kOn σ (kInN (kWt (kIb σ)) (kOutN (kIs (kIs (kIs σ 0 0 0) 3 0 (kI σ 3 0)) 7 0 (kI σ 7 0)) (kA σ 61 0)) i)) 0 0 (4 + 6 * i + r)) = nI (kIb σ (4 + 6 * i + r)) := by
        show iI (kV (kInN (kWt (kIb σ)) (kOutN (kIs (kIs (kIs σ 0 0 0) 3 0 (kI σ 3 0)) 7 0 (kI σ 7 0)) (kA σ 61 0)) i) 0 0 (4 + 6 * i + r)) = _
        rw [hVB, hb _ (by unfold kIml; omega), iI_nat]
      have hby2 (r : Nat) (hr : r < 6) : iI (kV (kOn σ (kGi (kOn σ (kInN (kWt (kIb σ)) (kOutN (kIs (kIs (kIs σ 0 0 0) 3 0 (kI σ 3 0)) 7 0 (kI σ 7 0)) (kA σ 61 0)) i)) i ((kWt (kIb σ)) (5 * i)) ((kWt (kIb σ)) (5 * i + 1)))) 0 0 (4 + 6 * i + r)) = nI (kIb σ (4 + 6 * i + r)) := by
        show iI (kV (kGi (kOn σ (kInN (kWt (kIb σ)) (kOutN (kIs (kIs (kIs σ 0 0 0) 3 0 (kI σ 3 0)) 7 0 (kI σ 7 0)) (kA σ 61 0)) i)) i ((kWt (kIb σ)) (5 * i)) ((kWt (kIb σ)) (5 * i + 1))) 0 0 (4 + 6 * i + r)) = _
        rw [kV_kGi]
        exact hby r hr
      have hw0 : (kWt (kIb σ)) (5 * i) = nI (kIb σ (4 + 6 * i + 1)) := kWt_at _ i 0 (by decide)
      have hw1 : (kWt (kIb σ)) (5 * i + 1) = nI (kIb σ (4 + 6 * i + 2)) := kWt_at _ i 1 (by decide)
      have hw2 : (kWt (kIb σ)) (5 * i + 2) = (if kIb σ (4 + 6 * i + 3) = 255 then -1 else nI (kIb σ (4 + 6 * i + 3))) := kWt_at _ i 2 (by decide)
      have hw3 : (kWt (kIb σ)) (5 * i + 3) = nI (kIb σ (4 + 6 * i + 4)) := kWt_at _ i 3 (by decide)
      have hw4 : (kWt (kIb σ)) (5 * i + 4) = nI (kIb σ (4 + 6 * i + 5)) := kWt_at _ i 4 (by decide)
      refine x_castS hC q1344 rfl dX2_on_99 (q := 102) rfl (n := (20, i)) (kg_20 (σ := (kOn σ (kInN (kWt (kIb σ)) (kOutN (kIs (kIs (kIs σ 0 0 0) 3 0 (kI σ 3 0)) 7 0 (kI σ 7 0)) (kA σ 61 0)) i))) i hi2) ?_
      refine x_astorer_n hC dX2_on_102 (q := 103) rfl rfl ?_
      refine x_iconst hC dX2_on_103 (q := 104) rfl (v := (4)) (by decide) ?_
      refine x_bipush hC dX2_on_104 (q := 106) rfl (v := (6)) (by decide) ?_
      refine x_iload_n hC dX2_on_106 (q := 107) rfl rfl ?_
      refine x_imul hC dX2_on_107 (q := 108) rfl ?_
      refine x_iadd hC dX2_on_108 (q := 109) rfl ?_
      refine x_steq (st1 := [.int (nI (4 + 6 * i))]) (by rw [show (6 : Int32) = nI 6 from rfl, pk_mul]; exact congrArg (fun z => [Value.int z]) (nI_add 4 (6 * i))) ?_
      refine x_istore hC dX2_on_109 (q := 111) rfl rfl ?_
      refine x_aloadr_n hC dX2_on_111 (q := 112) rfl rfl ?_
      refine x_aloadr_n hC dX2_on_112 (q := 113) rfl rfl ?_
      refine x_aloadr_n hC dX2_on_113 (q := 114) rfl rfl ?_
      refine x_get hC xf_X2_9_1 dX2_on_114 (q := 117) rfl (n := (0, 0)) rfl rfl ?_
      refine x_iload hC dX2_on_117 (q := 119) rfl rfl ?_
      refine x_iconst hC dX2_on_119 (q := 120) rfl (v := (1)) (by decide) ?_
      refine x_iadd hC dX2_on_120 (q := 121) rfl ?_
      refine x_cald hC dX2_on_121 (q := 122) rfl (n := (1, 0)) rfl (j := 4 + 6 * i + 1) (nI_add (4 + 6 * i) 1) (by omega) (by decide) ?_
      refine x_steq (st1 := [.int ((kWt (kIb σ)) (5 * i)), .ref (kA σ 0 0), .ref (kA σ 20 i)]) (by rw [hw0]; exact congrArg (fun z => [Value.int z, .ref (kA σ 0 0), .ref (kA σ 20 i)]) (hby 1 (by decide))) ?_
      refine x_callV hC xv_X2_317 dX2_on_122 (q := 125) rfl rfl (m_kilnOf_o h0 (kOn σ (kInN (kWt (kIb σ)) (kOutN (kIs (kIs (kIs σ 0 0 0) 3 0 (kI σ 3 0)) 7 0 (kI σ 7 0)) (kA σ 61 0)) i)) _ (by rw [kOn_eq (by rw [kA_kInN, kA_kOutN]; rfl)]; exact kInN_W (kOutN_V (kBk_V (KV_kIs hv (by decide) _ _) _ _) _).1 (kWt (kIb σ)) i (by rw [kA_kOutN]; exact hi)) ((kWt (kIb σ)) (5 * i))) (nn := (0, 0)) rfl rfl rfl (Nat.le_of_ble_eq_true rfl) ⟨(Nat.le_of_ble_eq_true rfl), (Nat.le_of_ble_eq_true rfl)⟩ ⟨(Nat.le_of_ble_eq_true rfl), (Nat.le_of_ble_eq_true rfl)⟩ (fun v g1 hp => ?_)
      obtain ⟨rfl, hg1⟩ := hp
      replace hg1 := hg1.symm
      subst hg1
      refine x_aloadr_n hC dX2_on_125 (q := 126) rfl rfl ?_
      refine x_get hC xf_X2_9_1 dX2_on_126 (q := 129) rfl (n := (0, 0)) rfl rfl ?_
      refine x_iload hC dX2_on_129 (q := 131) rfl rfl ?_
      refine x_iconst hC dX2_on_131 (q := 132) rfl (v := (2)) (by decide) ?_
      refine x_iadd hC dX2_on_132 (q := 133) rfl ?_
      refine x_cald hC dX2_on_133 (q := 134) rfl (n := (1, 0)) rfl (j := 4 + 6 * i + 2) (nI_add (4 + 6 * i) 2) (by omega) (by decide) ?_
      refine x_steq (st1 := [.int ((kWt (kIb σ)) (5 * i + 1)), va_rf ((kKx (kOn σ (kInN (kWt (kIb σ)) (kOutN (kIs (kIs (kIs σ 0 0 0) 3 0 (kI σ 3 0)) 7 0 (kI σ 7 0)) (kA σ 61 0)) i)) ((kWt (kIb σ)) (5 * i))).map (kA σ 21)), .ref (kA σ 20 i)]) (by rw [hw1]; exact congrArg (fun z => [Value.int z, va_rf ((kKx (kOn σ (kInN (kWt (kIb σ)) (kOutN (kIs (kIs (kIs σ 0 0 0) 3 0 (kI σ 3 0)) 7 0 (kI σ 7 0)) (kA σ 61 0)) i)) ((kWt (kIb σ)) (5 * i))).map (kA σ 21)), .ref (kA σ 20 i)]) (hby 2 (by decide))) ?_
      refine x_callV hC xv_X2_331 dX2_on_134 (q := 137) rfl rfl (m_goesIn_o h0 (kOn σ (kInN (kWt (kIb σ)) (kOutN (kIs (kIs (kIs σ 0 0 0) 3 0 (kI σ 3 0)) 7 0 (kI σ 7 0)) (kA σ 61 0)) i)) _ i hi2 ((kWt (kIb σ)) (5 * i)) ((kWt (kIb σ)) (5 * i + 1)) (hkw i hi2)) (nn := (20, i)) (kg_20 (σ := (kOn σ (kInN (kWt (kIb σ)) (kOutN (kIs (kIs (kIs σ 0 0 0) 3 0 (kI σ 3 0)) 7 0 (kI σ 7 0)) (kA σ 61 0)) i))) i hi2) rfl rfl (Nat.le_of_ble_eq_true rfl) ⟨(Nat.le_of_ble_eq_true rfl), (Nat.le_of_ble_eq_true rfl)⟩ ⟨(Nat.le_of_ble_eq_true rfl), (Nat.le_of_ble_eq_true rfl)⟩ (fun v g1 hp => ?_)
      obtain ⟨rfl, hg1⟩ := hp
      replace hg1 := hg1.symm
      subst hg1
      refine x_geq (g' := kmix (kOn σ (kGi (kOn σ (kInN (kWt (kIb σ)) (kOutN (kIs (kIs (kIs σ 0 0 0) 3 0 (kI σ 3 0)) 7 0 (kI σ 7 0)) (kA σ 61 0)) i)) i ((kWt (kIb σ)) (5 * i)) ((kWt (kIb σ)) (5 * i + 1)))) gF) (by rw [kOn_eq (σ := σ) (τ := (kGi (kOn σ (kInN (kWt (kIb σ)) (kOutN (kIs (kIs (kIs σ 0 0 0) 3 0 (kI σ 3 0)) 7 0 (kI σ 7 0)) (kA σ 61 0)) i)) i ((kWt (kIb σ)) (5 * i)) ((kWt (kIb σ)) (5 * i + 1)))) (by rw [kA_kGi]; rfl)]) ?_
      refine x_aloadr_n hC dX2_on_137 (q := 138) rfl rfl ?_
      refine x_aloadr_n hC dX2_on_138 (q := 139) rfl rfl ?_
      refine x_get hC xf_X2_9_1 dX2_on_139 (q := 142) rfl (n := (0, 0)) rfl rfl ?_
      refine x_iload hC dX2_on_142 (q := 144) rfl rfl ?_
      refine x_iconst hC dX2_on_144 (q := 145) rfl (v := (3)) (by decide) ?_
      refine x_iadd hC dX2_on_145 (q := 146) rfl ?_
      refine x_cald hC dX2_on_146 (q := 147) rfl (n := (1, 0)) rfl (j := 4 + 6 * i + 3) (nI_add (4 + 6 * i) 3) (by omega) (by decide) ?_
      refine x_steq (st1 := [.int (nI (kIb σ (4 + 6 * i + 3))), .ref (kA σ 20 i)]) (by exact congrArg (fun z => [Value.int z, .ref (kA σ 20 i)]) (hby2 3 (by decide))) ?_
      refine x_callS hC xv_X2_478 dX2_on_147 (q := 150) rfl rfl (m_X2_orNone h0 _ (kIb σ (4 + 6 * i + 3)) (by rw [kIb_c hi2 (by decide)]; exact kBy6_lt hw hp hn hi2 3)) rfl (Nat.le_of_ble_eq_true rfl) ⟨(Nat.le_of_ble_eq_true rfl), (Nat.le_of_ble_eq_true rfl)⟩ ⟨(Nat.le_of_ble_eq_true rfl), (Nat.le_of_ble_eq_true rfl)⟩ (fun v g1 hp => ?_)
      obtain ⟨rfl, hg1⟩ := hp
      replace hg1 := hg1.symm
      subst hg1
      refine x_steq (st1 := [.int ((kWt (kIb σ)) (5 * i + 2)), .ref (kA σ 20 i)]) (by rw [hw2]; rfl) ?_
      refine x_put hC (n := (20, i)) xf_X2_371_5 xd_5 rfl dX2_on_150 (q := 153) rfl (kg_20 (σ := (kOn σ (kGi (kOn σ (kInN (kWt (kIb σ)) (kOutN (kIs (kIs (kIs σ 0 0 0) 3 0 (kI σ 3 0)) 7 0 (kI σ 7 0)) (kA σ 61 0)) i)) i ((kWt (kIb σ)) (5 * i)) ((kWt (kIb σ)) (5 * i + 1))))) i hi2) rfl rfl rfl ?_
      refine x_geq (kf_temper (z := ((kWt (kIb σ)) (5 * i + 2)).toInt) (iI_self _).symm hi2) ?_
      refine x_aloadr_n hC dX2_on_153 (q := 154) rfl rfl ?_
      refine x_aloadr_n hC dX2_on_154 (q := 155) rfl rfl ?_
      refine x_get hC xf_X2_9_1 dX2_on_155 (q := 158) rfl (n := (0, 0)) rfl rfl ?_
      refine x_iload hC dX2_on_158 (q := 160) rfl rfl ?_
      refine x_iconst hC dX2_on_160 (q := 161) rfl (v := (4)) (by decide) ?_
      refine x_iadd hC dX2_on_161 (q := 162) rfl ?_
      refine x_cald hC dX2_on_162 (q := 163) rfl (n := (1, 0)) rfl (j := 4 + 6 * i + 4) (nI_add (4 + 6 * i) 4) (by omega) (by decide) ?_
      refine x_iconst hC dX2_on_163 (q := 164) rfl (v := (1)) (by decide) ?_
      refine x_icmp_ne hC dX2_on_164 (q := 167) rfl (tgt := 171) rfl (fun h164 => ?_) (fun h164 => ?_)
      · have hz : (if (kWt (kIb σ)) (5 * i + 3) = 1 then (1 : Int) else 0) = 0 := if_neg (by rw [hw3, ← hby2 4 (by decide)]; exact h164)
        refine x_iconst hC dX2_on_171 (q := 172) rfl (v := (0)) (by decide) ?_
        refine x_put hC (n := (20, i)) xf_X2_373_5 xd_5 rfl dX2_on_172 (q := 175) rfl (kg_20 (σ := (kIs (kOn σ (kGi (kOn σ (kInN (kWt (kIb σ)) (kOutN (kIs (kIs (kIs σ 0 0 0) 3 0 (kI σ 3 0)) 7 0 (kI σ 7 0)) (kA σ 61 0)) i)) i ((kWt (kIb σ)) (5 * i)) ((kWt (kIb σ)) (5 * i + 1)))) 34 i ((kWt (kIb σ)) (5 * i + 2)).toInt)) i hi2) rfl rfl rfl ?_
        refine x_geq (kf_cracked (z := if (kWt (kIb σ)) (5 * i + 3) = 1 then 1 else 0) (by rw [hz]; rfl) hi2) ?_
        refine x_aloadr_n hC dX2_on_175 (q := 176) rfl rfl ?_
        refine x_aloadr_n hC dX2_on_176 (q := 177) rfl rfl ?_
        refine x_get hC xf_X2_9_1 dX2_on_177 (q := 180) rfl (n := (0, 0)) rfl rfl ?_
        refine x_iload hC dX2_on_180 (q := 182) rfl rfl ?_
        refine x_iconst hC dX2_on_182 (q := 183) rfl (v := (5)) (by decide) ?_
        refine x_iadd hC dX2_on_183 (q := 184) rfl ?_
        refine x_cald hC dX2_on_184 (q := 185) rfl (n := (1, 0)) rfl (j := 4 + 6 * i + 5) (nI_add (4 + 6 * i) 5) (by omega) (by decide) ?_
        refine x_steq (st1 := [.int ((kWt (kIb σ)) (5 * i + 4)), .ref (kA σ 20 i)]) (by rw [hw4]; exact congrArg (fun z => [Value.int z, .ref (kA σ 20 i)]) (hby2 5 (by decide))) ?_
        refine x_put hC (n := (20, i)) xf_X2_412_5 xd_5 rfl dX2_on_185 (q := 188) rfl (kg_20 (σ := (kIs (kIs (kOn σ (kGi (kOn σ (kInN (kWt (kIb σ)) (kOutN (kIs (kIs (kIs σ 0 0 0) 3 0 (kI σ 3 0)) 7 0 (kI σ 7 0)) (kA σ 61 0)) i)) i ((kWt (kIb σ)) (5 * i)) ((kWt (kIb σ)) (5 * i + 1)))) 34 i ((kWt (kIb σ)) (5 * i + 2)).toInt) 36 i (if (kWt (kIb σ)) (5 * i + 3) = 1 then 1 else 0))) i hi2) rfl rfl rfl ?_
        refine x_geq (kf_stuck (z := ((kWt (kIb σ)) (5 * i + 4)).toInt) (iI_self _).symm hi2) ?_
        refine x_iinc hC dX2_on_188 (q := 191) rfl rfl (v := nI (i + 1)) (nI_1 i) ?_
        refine x_goto hC dX2_on_191 (tgt := 80) rfl ?_
        refine x_geq (g' := kmix (kOn σ (kInN (kWt (kIb σ)) (kOutN (kIs (kIs (kIs σ 0 0 0) 3 0 (kI σ 3 0)) 7 0 (kI σ 7 0)) (kA σ 61 0)) (i + 1))) gF) (by rw [kOn_eq (σ := σ) (τ := (kGi (kOn σ (kInN (kWt (kIb σ)) (kOutN (kIs (kIs (kIs σ 0 0 0) 3 0 (kI σ 3 0)) 7 0 (kI σ 7 0)) (kA σ 61 0)) i)) i ((kWt (kIb σ)) (5 * i)) ((kWt (kIb σ)) (5 * i + 1)))) (by rw [kA_kGi]; rfl), kOn_eq (by rw [kA_kInN, kA_kOutN]; rfl), kOn_eq (by rw [kA_kInN, kA_kOutN]; rfl)]; rfl) ?_
        refine x_lvle (lv' := [some (.ref (kA σ 0 0)), some (.int (nI (kIml σ + 1))), some (.int (nI (i + 1))), none, none]) (by repeat' constructor) ?_
        exact ih (i + 1) (by omega) (by omega)
      have hz : (if (kWt (kIb σ)) (5 * i + 3) = 1 then (1 : Int) else 0) = 1 := if_pos (by rw [hw3, ← hby2 4 (by decide)]; exact h164)
      refine x_iconst hC dX2_on_167 (q := 168) rfl (v := (1)) (by decide) ?_
      refine x_goto hC dX2_on_168 (tgt := 172) rfl ?_
      refine x_put hC (n := (20, i)) xf_X2_373_5 xd_5 rfl dX2_on_172 (q := 175) rfl (kg_20 (σ := (kIs (kOn σ (kGi (kOn σ (kInN (kWt (kIb σ)) (kOutN (kIs (kIs (kIs σ 0 0 0) 3 0 (kI σ 3 0)) 7 0 (kI σ 7 0)) (kA σ 61 0)) i)) i ((kWt (kIb σ)) (5 * i)) ((kWt (kIb σ)) (5 * i + 1)))) 34 i ((kWt (kIb σ)) (5 * i + 2)).toInt)) i hi2) rfl rfl rfl ?_
      refine x_geq (kf_cracked (z := if (kWt (kIb σ)) (5 * i + 3) = 1 then 1 else 0) (by rw [hz]; rfl) hi2) ?_
      refine x_aloadr_n hC dX2_on_175 (q := 176) rfl rfl ?_
      refine x_aloadr_n hC dX2_on_176 (q := 177) rfl rfl ?_
      refine x_get hC xf_X2_9_1 dX2_on_177 (q := 180) rfl (n := (0, 0)) rfl rfl ?_
      refine x_iload hC dX2_on_180 (q := 182) rfl rfl ?_
      refine x_iconst hC dX2_on_182 (q := 183) rfl (v := (5)) (by decide) ?_
      refine x_iadd hC dX2_on_183 (q := 184) rfl ?_
      refine x_cald hC dX2_on_184 (q := 185) rfl (n := (1, 0)) rfl (j := 4 + 6 * i + 5) (nI_add (4 + 6 * i) 5) (by omega) (by decide) ?_
      refine x_steq (st1 := [.int ((kWt (kIb σ)) (5 * i + 4)), .ref (kA σ 20 i)]) (by rw [hw4]; exact congrArg (fun z => [Value.int z, .ref (kA σ 20 i)]) (hby2 5 (by decide))) ?_
      refine x_put hC (n := (20, i)) xf_X2_412_5 xd_5 rfl dX2_on_185 (q := 188) rfl (kg_20 (σ := (kIs (kIs (kOn σ (kGi (kOn σ (kInN (kWt (kIb σ)) (kOutN (kIs (kIs (kIs σ 0 0 0) 3 0 (kI σ 3 0)) 7 0 (kI σ 7 0)) (kA σ 61 0)) i)) i ((kWt (kIb σ)) (5 * i)) ((kWt (kIb σ)) (5 * i + 1)))) 34 i ((kWt (kIb σ)) (5 * i + 2)).toInt) 36 i (if (kWt (kIb σ)) (5 * i + 3) = 1 then 1 else 0))) i hi2) rfl rfl rfl ?_
      refine x_geq (kf_stuck (z := ((kWt (kIb σ)) (5 * i + 4)).toInt) (iI_self _).symm hi2) ?_
      refine x_iinc hC dX2_on_188 (q := 191) rfl rfl (v := nI (i + 1)) (nI_1 i) ?_
      refine x_goto hC dX2_on_191 (tgt := 80) rfl ?_
      refine x_geq (g' := kmix (kOn σ (kInN (kWt (kIb σ)) (kOutN (kIs (kIs (kIs σ 0 0 0) 3 0 (kI σ 3 0)) 7 0 (kI σ 7 0)) (kA σ 61 0)) (i + 1))) gF) (by rw [kOn_eq (σ := σ) (τ := (kGi (kOn σ (kInN (kWt (kIb σ)) (kOutN (kIs (kIs (kIs σ 0 0 0) 3 0 (kI σ 3 0)) 7 0 (kI σ 7 0)) (kA σ 61 0)) i)) i ((kWt (kIb σ)) (5 * i)) ((kWt (kIb σ)) (5 * i + 1)))) (by rw [kA_kGi]; rfl), kOn_eq (by rw [kA_kInN, kA_kOutN]; rfl), kOn_eq (by rw [kA_kInN, kA_kOutN]; rfl)]; rfl) ?_
      refine x_lvle (lv' := [some (.ref (kA σ 0 0)), some (.int (nI (kIml σ + 1))), some (.int (nI (i + 1))), none, none]) (by repeat' constructor) ?_
      exact ih (i + 1) (by omega) (by omega)
    have hi2 : i < (kA σ 61 0) := Nat.lt_of_not_le (fun q => h52 (show nI (kA σ 61 0) ≤ nI i from nI_le q (by have := hw.1; omega)))
    have hn8 := hw.1
    refine x_aloadr_n hC dX2_on_55 (q := 56) rfl rfl ?_
    refine x_get hC xf_X2_20_1 dX2_on_56 (q := 59) rfl (n := (0, 0)) rfl rfl ?_
    refine x_get hC xf_X2_143_2 dX2_on_59 (q := 62) rfl (n := (3, 0)) rfl rfl ?_
    refine x_iload_n hC dX2_on_62 (q := 63) rfl rfl ?_
    refine x_callV hC xv_X2_139 dX2_on_63 (q := 66) rfl rfl (m_childAt h0 (kOn σ (kOutN (kIs (kIs (kIs σ 0 0 0) 3 0 (kI σ 3 0)) 7 0 (kI σ 7 0)) i)) _ hw.c61 i hi2) (nn := (4, 0)) rfl rfl rfl (Nat.le_of_ble_eq_true rfl) ⟨(Nat.le_of_ble_eq_true rfl), (Nat.le_of_ble_eq_true rfl)⟩ ⟨(Nat.le_of_ble_eq_true rfl), (Nat.le_of_ble_eq_true rfl)⟩ (fun v g1 hp => ?_)
    obtain ⟨rfl, hg1⟩ := hp
    replace hg1 := hg1.symm
    subst hg1
    refine x_castS hC q1344 rfl dX2_on_66 (q := 69) rfl (n := (20, i)) (kg_20 (σ := (kOn σ (kOutN (kIs (kIs (kIs σ 0 0 0) 3 0 (kI σ 3 0)) 7 0 (kI σ 7 0)) i))) i hi2) ?_
    refine x_callV hC xv_X2_328 dX2_on_69 (q := 72) rfl rfl (m_X8_goesOut h0 (kOn σ (kOutN (kIs (kIs (kIs σ 0 0 0) 3 0 (kI σ 3 0)) 7 0 (kI σ 7 0)) i)) _ (by rw [kOn_eq (by rw [kA_kOutN]; rfl)]; exact kOutN_V (kBk_V (KV_kIs hv (by decide) _ _) _ _) i) i hi2) (nn := (20, i)) (kg_20 (σ := (kOn σ (kOutN (kIs (kIs (kIs σ 0 0 0) 3 0 (kI σ 3 0)) 7 0 (kI σ 7 0)) i))) i hi2) rfl rfl (Nat.le_of_ble_eq_true rfl) ⟨(Nat.le_of_ble_eq_true rfl), (Nat.le_of_ble_eq_true rfl)⟩ ⟨(Nat.le_of_ble_eq_true rfl), (Nat.le_of_ble_eq_true rfl)⟩ (fun v g1 hp => ?_)
    obtain ⟨rfl, hg1⟩ := hp
    replace hg1 := hg1.symm
    subst hg1
    refine x_iinc hC dX2_on_72 (q := 75) rfl rfl (v := nI (i + 1)) (nI_1 i) ?_
    refine x_goto hC dX2_on_75 (tgt := 47) rfl ?_
    refine x_geq (g' := kmix (kOn σ (kOutN (kIs (kIs (kIs σ 0 0 0) 3 0 (kI σ 3 0)) 7 0 (kI σ 7 0)) (i + 1))) gF) (by rw [kOn_eq (by rw [kA_kOutN]; rfl), kOn_eq (by rw [kA_kOutN]; rfl)]; rfl) ?_
    refine x_lvle (lv' := [some (.ref (kA σ 0 0)), some (.int (nI (kIml σ + 1))), some (.int (nI (i + 1))), none, none]) (by repeat' constructor) ?_
    exact ih (i + 1) (by omega) (by omega)
  · exact absurd h15 (by decide)
