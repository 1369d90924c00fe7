/-! the law's town -/
abbrev aA : Type := (Nat → Nat) × (Nat → Nat) × (Nat → Nat) × (Nat → Nat)
def aI (α : aA) : Nat → Nat := α.1
def aCl (α : aA) : Nat → Nat := α.2.1
def aGr (α : aA) : Nat → Nat := α.2.2.1
def aRo (α : aA) : Nat → Nat := α.2.2.2
def aF (c : Nat → Nat) (i : Nat) : Nat → Int32 := fun k => if k < i then nI (c k) else 0
theorem aF_up (c : Nat → Nat) (i : Nat) : upd (aF c i) i (nI (c i)) = aF c (i + 1) := by
  funext k
  unfold upd aF
  by_cases h : k = i
  · subst h; simp
  · rw [if_neg h]
    by_cases h2 : k < i
    · rw [if_pos h2, if_pos (by omega)]
    · rw [if_neg h2, if_neg (by omega)]
def aOk (α : aA) : Prop := aI α 0 ≤ 6 ∧ aI α 1 ≤ 3 ∧ aI α 2 ≤ 4 ∧ aI α 3 ≤ 4 ∧ aI α 4 ≤ 4 ∧ aI α 5 ≤ 4 ∧ aI α 6 < 120 ∧ aI α 7 < 30 ∧ aI α 8 < 101 ∧ (∀ c, aCl α c < 80) ∧ (∀ c, aGr α c < 10) ∧ (∀ q, 1 ≤ aRo α q ∧ aRo α q ≤ 6)
/-- what a script's numbers make of it -/
def aOf (f : Nat → Int32) : aA := (fun k => match k with
  | 0 => if pk (f 0) 13 = 0 then 0 else 1 + pk (f 0) 13 % 6
  | 1 => if pk (f 1) 10 = 0 then 0 else 1 + pk (f 1) 10 % 3
  | 2 => pk (f 2) 5 | 3 => pk (f 3) 5 | 4 => pk (f 4) 5 | 5 => pk (f 5) 5 | 6 => pk (f 6) 120 | 7 => pk (f 7) 30 | 8 => pk (f 8) 101 | _ => 0,
  fun c => pk (f (9 + 2 * c)) 80, fun c => pk (f (10 + 2 * c)) 10, fun q => 1 + pk (f (21 + q)) 6)
theorem aOf_ok (f : Nat → Int32) : aOk (aOf f) := by
  have h : ∀ x n, 0 < n → n < 100000 → pk x n < n := fun x n a b => (pk_ok x a b).1
  refine ⟨?_, ?_, ?_, ?_, ?_, ?_, h _ 120 (by decide) (by decide), h _ 30 (by decide) (by decide), h _ 101 (by decide) (by decide), fun c => h _ 80 (by decide) (by decide), fun c => h _ 10 (by decide) (by decide), fun q => ⟨Nat.le_add_right 1 _, ?_⟩⟩
  · show (if pk (f 0) 13 = 0 then 0 else 1 + pk (f 0) 13 % 6) ≤ 6
    split <;> omega
  · show (if pk (f 1) 10 = 0 then 0 else 1 + pk (f 1) 10 % 3) ≤ 3
    split <;> omega
  · exact Nat.le_of_lt_succ (h (f 2) 5 (by decide) (by decide))
  · exact Nat.le_of_lt_succ (h (f 3) 5 (by decide) (by decide))
  · exact Nat.le_of_lt_succ (h (f 4) 5 (by decide) (by decide))
  · exact Nat.le_of_lt_succ (h (f 5) 5 (by decide) (by decide))
  · have := h (f (21 + q)) 6 (by decide) (by decide)
    show 1 + pk (f (21 + q)) 6 ≤ 6
    omega
def aFs (α : aA) (ca ga ra : Nat) : List Value := [.int (nI (aI α 0)), .int (nI (aI α 1)), .int (iI ((aI α 2 : Int) - 1)), .int (iI ((aI α 3 : Int) - 1)), .int (iI ((aI α 4 : Int) - 1)), .int (iI ((aI α 5 : Int) - 1)), .int (nI (aI α 6)), .int (nI (aI α 7)), .int (nI (aI α 8)), .ref ca, .ref ga, .ref ra]
def AX (g : xG) (aa ca ga ra : Nat) (fs : List Value) (fc fg fr : Nat → Int32) : xG := fun k => if k = (101, 0) then some (aa, xO 0 fs) else if k = (102, 0) then some (ca, xAi .int 6 fc) else if k = (103, 0) then some (ga, xAi .int 6 fg) else if k = (104, 0) then some (ra, xAi .int 3 fr) else g k
theorem AX_mk (g : xG) (aa ca ga ra : Nat) (x y : Option (Nat × xE)) (fs : List Value) (fc fg fr : Nat → Int32) : xu (xu (xu (xu (xu (xu g (102, 0) (some (ca, xAi .int 6 fc))) (101, 0) x) (103, 0) (some (ga, xAi .int 6 fg))) (101, 0) y) (104, 0) (some (ra, xAi .int 3 fr))) (101, 0) (some (aa, xO 0 fs)) = AX g aa ca ga ra fs fc fg fr := by
  funext k
  by_cases h1 : k = (101, 0)
  · subst h1; rfl
  by_cases h2 : k = (102, 0)
  · subst h2; rfl
  by_cases h3 : k = (103, 0)
  · subst h3; rfl
  by_cases h4 : k = (104, 0)
  · subst h4; rfl
  rw [xu_ne h1, xu_ne h4, xu_ne h1, xu_ne h3, xu_ne h1, xu_ne h2]
  unfold AX
  rw [if_neg h1, if_neg h2, if_neg h3, if_neg h4]
theorem AX_p (g : xG) (aa ca ga ra : Nat) (fs : List Value) {fs1 fs2 : List Value} (fc fg fr : Nat → Int32) (h : fs1 = fs2) : xu (AX g aa ca ga ra fs fc fg fr) (101, 0) (some (aa, xO 0 fs1)) = AX g aa ca ga ra fs2 fc fg fr := by
  subst h
  funext k
  by_cases h1 : k = (101, 0)
  · subst h1; rfl
  rw [xu_ne h1]
  unfold AX
  rw [if_neg h1, if_neg h1]
theorem AX_c (g : xG) (aa ca ga ra : Nat) (fs : List Value) (fc fc1 fg fr : Nat → Int32) : xu (AX g aa ca ga ra fs fc fg fr) (102, 0) (some (ca, xAi .int 6 fc1)) = AX g aa ca ga ra fs fc1 fg fr := by
  funext k
  by_cases h1 : k = (101, 0)
  · subst h1; rfl
  by_cases h2 : k = (102, 0)
  · subst h2; rfl
  rw [xu_ne h2]
  unfold AX
  rw [if_neg h1, if_neg h1, if_neg h2, if_neg h2]
theorem AX_g (g : xG) (aa ca ga ra : Nat) (fs : List Value) (fc fg fg1 fr : Nat → Int32) : xu (AX g aa ca ga ra fs fc fg fr) (103, 0) (some (ga, xAi .int 6 fg1)) = AX g aa ca ga ra fs fc fg1 fr := by
  funext k
  by_cases h1 : k = (101, 0)
  · subst h1; rfl
  by_cases h2 : k = (102, 0)
  · subst h2; rfl
  by_cases h3 : k = (103, 0)
  · subst h3; rfl
  rw [xu_ne h3]
  unfold AX
  rw [if_neg h1, if_neg h1, if_neg h2, if_neg h2, if_neg h3, if_neg h3]
theorem AX_r (g : xG) (aa ca ga ra : Nat) (fs : List Value) (fc fg fr fr1 : Nat → Int32) : xu (AX g aa ca ga ra fs fc fg fr) (104, 0) (some (ra, xAi .int 3 fr1)) = AX g aa ca ga ra fs fc fg fr1 := by
  funext k
  by_cases h1 : k = (101, 0)
  · subst h1; rfl
  by_cases h2 : k = (102, 0)
  · subst h2; rfl
  by_cases h3 : k = (103, 0)
  · subst h3; rfl
  by_cases h4 : k = (104, 0)
  · subst h4; rfl
  rw [xu_ne h4]
  unfold AX
  rw [if_neg h1, if_neg h1, if_neg h2, if_neg h2, if_neg h3, if_neg h3, if_neg h4, if_neg h4]
theorem AX_ne {g : xG} {aa ca ga ra : Nat} {fs : List Value} {fc fg fr : Nat → Int32} {n : xN} (h1 : n ≠ (101, 0)) (h2 : n ≠ (102, 0)) (h3 : n ≠ (103, 0)) (h4 : n ≠ (104, 0)) : AX g aa ca ga ra fs fc fg fr n = g n := by
  unfold AX
  rw [if_neg h1, if_neg h2, if_neg h3, if_neg h4]
theorem nI_mod {a b : Nat} (ha : a < 2147483648) (h0 : 0 < b) (hb : b < 100000) : nI a - nI a / nI b * nI b = nI (a % b) := by
  rw [← iI_nat a, rem_iI (iB_nat ha) h0 hb, ← iI_nat]
  rfl
theorem nI_mu (a b : Nat) : nI a * nI b = nI (a * b) := by
  rw [← iI_nat, ← iI_nat, iI_mul, ← iI_nat]
  rfl
theorem nI_m (n : Nat) : nI n - 1 = iI ((n : Int) - 1) := by
  rw [← iI_nat]; exact iI_sub _ 1
theorem aOf_0t {f : Nat → Int32} {n j m : Nat} (hj : m < 100 ∧ 0 < n ∧ n < 100 ∧ 0 < m) (h : ¬ nI (pk (f j) n) = 0) : nI (if pk (f j) n = 0 then 0 else 1 + pk (f j) n % m) = 1 + (nI (pk (f j) n) - nI (pk (f j) n) / nI m * nI m) := by
  have h1 := (pk_ok (f j) hj.2.1 (show n < 100000 by omega)).1
  rw [if_neg (fun q => h (by rw [q]; rfl)), nI_mod (by omega) hj.2.2.2 (by omega), ← nI_add]
  rfl
theorem aOf_0f {f : Nat → Int32} {n j m : Nat} (hj : m < 100 ∧ 0 < n ∧ n < 100 ∧ 0 < m) (h : nI (pk (f j) n) = 0) : nI (if pk (f j) n = 0 then 0 else 1 + pk (f j) n % m) = 0 := by
  have h1 := (pk_ok (f j) hj.2.1 (show n < 100000 by omega)).1
  rw [if_pos ((nI_eq (b := 0) (by omega) (by decide)).mp h)]
  rfl

set_option maxHeartbeats 4000000 in
set_option maxRecDepth 100000 in
theorem m_X1_init {l : Launch} {s0 : State} {D : va_G} (h0 : x0 l s0 D) (g : xG) {aa sa : Nat} {f : Nat → Int32} {A V B : Nat → Nat} (hS : KS0 s0 A V B) (hK : KG g A V B) (hs : g (100, 0) = some (sa, xAi .int 400 f)) (hh : g (101, 0) = some (aa, xO 0 [.int 0, .int 0, .int 0, .int 0, .int 0, .int 0, .int 0, .int 0, .int 0, .null, .null, .null])) (hf2 : g (102, 0) = none) (hf3 : g (103, 0) = none) (hf4 : g (104, 0) = none) : xMet l s0 D yX1_init cX1_init 5 none (xr 2 3 15 80) [.ref aa, .ref sa] g (fun r g1 => ∃ ca ga ra, r = none ∧ g1 = AX g aa ca ga ra (aFs (aOf f) ca ga ra) (aF (aCl (aOf f)) (aI (aOf f) 0)) (aF (aGr (aOf f)) (aI (aOf f) 0)) (aF (aRo (aOf f)) (aI (aOf f) 1))) := by
  have hok := aOf_ok f
  have hb0 := hok.1
  have hb1 := hok.2.1
  refine xMet.of h0 (by decide +kernel) rfl ?_
  intro zp ze zs zm za zb zf zc hC hr hnm
  refine x_aloadr_n hC dX1_init_0 (q := 1) rfl rfl ?_
  refine x_objInit hC q1107 q124 q125 dX1_init_1 (q := 4) rfl (by decide) (Nat.le_of_ble_eq_true rfl) (Nat.le_of_ble_eq_true rfl) ?_
  refine x_aloadr_n hC dX1_init_4 (q := 5) rfl rfl ?_
  refine x_bipush hC dX1_init_5 (q := 7) rfl (v := (6)) (by decide) ?_
  refine x_newa hC (at0 := .int) (N := 6) (x := (6, .inl (fun _ => 0))) (102, 0) q159 dX1_init_7 (q := 9) rfl rfl hf2 rfl (by decide) (fun _ => rfl) (Nat.le_of_ble_eq_true rfl) (Nat.le_of_ble_eq_true rfl) (fun a_7 => ?_)
  refine x_putF hC hnm (n := (101, 0)) xff_X1_7_0 xd_0 rfl dX1_init_9 (q := 12) rfl ((xu_ne (n_fst rfl)).trans hh) rfl rfl rfl ?_
  refine x_aloadr_n hC dX1_init_12 (q := 13) rfl rfl ?_
  refine x_bipush hC dX1_init_13 (q := 15) rfl (v := (6)) (by decide) ?_
  refine x_newa hC (at0 := .int) (N := 6) (x := (6, .inl (fun _ => 0))) (103, 0) q159 dX1_init_15 (q := 17) rfl rfl ((xu_ne (n_fst rfl)).trans ((xu_ne (n_fst rfl)).trans hf3)) rfl (by decide) (fun _ => rfl) (Nat.le_of_ble_eq_true rfl) (Nat.le_of_ble_eq_true rfl) (fun a_15 => ?_)
  refine x_putF hC hnm (n := (101, 0)) xff_X1_13_0 xd_0 rfl dX1_init_17 (q := 20) rfl ((xu_ne (n_fst rfl)).trans (xu_eq _ _ _)) rfl rfl rfl ?_
  refine x_aloadr_n hC dX1_init_20 (q := 21) rfl rfl ?_
  refine x_iconst hC dX1_init_21 (q := 22) rfl (v := (3)) (by decide) ?_
  refine x_newa hC (at0 := .int) (N := 3) (x := (3, .inl (fun _ => 0))) (104, 0) q159 dX1_init_22 (q := 24) rfl rfl ((xu_ne (n_fst rfl)).trans ((xu_ne (n_fst rfl)).trans ((xu_ne (n_fst rfl)).trans ((xu_ne (n_fst rfl)).trans hf4)))) rfl (by decide) (fun _ => rfl) (Nat.le_of_ble_eq_true rfl) (Nat.le_of_ble_eq_true rfl) (fun a_22 => ?_)
  refine x_putF hC hnm (n := (101, 0)) xff_X1_16_0 xd_0 rfl dX1_init_24 (q := 27) rfl ((xu_ne (n_fst rfl)).trans (xu_eq _ _ _)) rfl rfl rfl ?_
  refine x_geq (g' := (AX g aa a_7 a_15 a_22 [.int 0, .int 0, .int 0, .int 0, .int 0, .int 0, .int 0, .int 0, .int 0, .ref a_7, .ref a_15, .ref a_22] (fun _ => 0) (fun _ => 0) (fun _ => 0))) (AX_mk _ _ _ _ _ _ _ _ _ _ _) ?_
  refine x_aloadr_n hC dX1_init_27 (q := 28) rfl rfl ?_
  refine x_iconst hC dX1_init_28 (q := 29) rfl (v := (0)) (by decide) ?_
  refine x_bipush hC dX1_init_29 (q := 31) rfl (v := (13)) (by decide) ?_
  refine x_callSN hC xv_X1_19 dX1_init_31 (q := 34) rfl rfl (m_X0_pick h0 _ ((AX_ne (n_fst rfl) (n_fst rfl) (n_fst rfl) (n_fst rfl)).trans hs) (k := 0) (n := 13) (by omega) (by decide) (by decide)) rfl (Nat.le_of_ble_eq_true rfl) ⟨(Nat.le_of_ble_eq_true rfl), (Nat.le_of_ble_eq_true rfl)⟩ ⟨(Nat.le_of_ble_eq_true rfl), (Nat.le_of_ble_eq_true rfl)⟩ (fun v g1 hp => ?_)
  obtain ⟨rfl, hg1⟩ := hp
  replace hg1 := hg1.symm
  subst hg1
  refine x_istore_n hC dX1_init_34 (q := 35) rfl rfl ?_
  refine x_aloadr_n hC dX1_init_35 (q := 36) rfl rfl ?_
  refine x_iconst hC dX1_init_36 (q := 37) rfl (v := (1)) (by decide) ?_
  refine x_bipush hC dX1_init_37 (q := 39) rfl (v := (10)) (by decide) ?_
  refine x_callSN hC xv_X1_19 dX1_init_39 (q := 42) rfl rfl (m_X0_pick h0 _ ((AX_ne (n_fst rfl) (n_fst rfl) (n_fst rfl) (n_fst rfl)).trans hs) (k := 1) (n := 10) (by omega) (by decide) (by decide)) rfl (Nat.le_of_ble_eq_true rfl) ⟨(Nat.le_of_ble_eq_true rfl), (Nat.le_of_ble_eq_true rfl)⟩ ⟨(Nat.le_of_ble_eq_true rfl), (Nat.le_of_ble_eq_true rfl)⟩ (fun v g1 hp => ?_)
  obtain ⟨rfl, hg1⟩ := hp
  replace hg1 := hg1.symm
  subst hg1
  refine x_istore_n hC dX1_init_42 (q := 43) rfl rfl ?_
  refine x_aloadr_n hC dX1_init_43 (q := 44) rfl rfl ?_
  refine x_iload_n hC dX1_init_44 (q := 45) rfl rfl ?_
  refine x_if_ne hC dX1_init_45 (q := 48) rfl (tgt := 52) rfl (fun h45 => ?_) (fun h45 => ?_)
  · refine x_iconst hC dX1_init_52 (q := 53) rfl (v := (1)) (by decide) ?_
    refine x_iload_n hC dX1_init_53 (q := 54) rfl rfl ?_
    refine x_bipush hC dX1_init_54 (q := 56) rfl (v := (6)) (by decide) ?_
    refine x_irem hC dX1_init_56 (q := 57) rfl (by decide) ?_
    refine x_iadd hC dX1_init_57 (q := 58) rfl ?_
    refine x_putF hC hnm (n := (101, 0)) xff_X1_25_0 xd_0 rfl dX1_init_58 (q := 61) rfl rfl rfl rfl rfl ?_
    refine x_geq (g' := (AX g aa a_7 a_15 a_22 [.int (nI (aI (aOf f) 0)), .int 0, .int 0, .int 0, .int 0, .int 0, .int 0, .int 0, .int 0, .ref a_7, .ref a_15, .ref a_22] (fun _ => 0) (fun _ => 0) (fun _ => 0))) (AX_p _ _ _ _ _ _ _ _ _ (by first | (rw [show nI (aI (aOf f) 0) = _ from aOf_0t (f := f) (n := 13) (j := 0) (m := 6) (by decide) (by assumption)]; rfl) | (rw [show nI (aI (aOf f) 0) = _ from aOf_0f (f := f) (n := 13) (j := 0) (m := 6) (by decide) (by assumption)]; rfl))) ?_
    refine x_aloadr_n hC dX1_init_61 (q := 62) rfl rfl ?_
    refine x_iload_n hC dX1_init_62 (q := 63) rfl rfl ?_
    refine x_if_ne hC dX1_init_63 (q := 66) rfl (tgt := 70) rfl (fun h63 => ?_) (fun h63 => ?_)
    · refine x_iconst hC dX1_init_70 (q := 71) rfl (v := (1)) (by decide) ?_
      refine x_iload_n hC dX1_init_71 (q := 72) rfl rfl ?_
      refine x_iconst hC dX1_init_72 (q := 73) rfl (v := (3)) (by decide) ?_
      refine x_irem hC dX1_init_73 (q := 74) rfl (by decide) ?_
      refine x_iadd hC dX1_init_74 (q := 75) rfl ?_
      refine x_putF hC hnm (n := (101, 0)) xff_X1_29_0 xd_0 rfl dX1_init_75 (q := 78) rfl rfl rfl rfl rfl ?_
      refine x_geq (g' := (AX g aa a_7 a_15 a_22 [.int (nI (aI (aOf f) 0)), .int (nI (aI (aOf f) 1)), .int 0, .int 0, .int 0, .int 0, .int 0, .int 0, .int 0, .ref a_7, .ref a_15, .ref a_22] (fun _ => 0) (fun _ => 0) (fun _ => 0))) (AX_p _ _ _ _ _ _ _ _ _ (by first | (rw [show nI (aI (aOf f) 1) = _ from aOf_0t (f := f) (n := 10) (j := 1) (m := 3) (by decide) (by assumption)]; rfl) | (rw [show nI (aI (aOf f) 1) = _ from aOf_0f (f := f) (n := 10) (j := 1) (m := 3) (by decide) (by assumption)]; rfl))) ?_
      refine x_aloadr_n hC dX1_init_78 (q := 79) rfl rfl ?_
      refine x_aloadr_n hC dX1_init_79 (q := 80) rfl rfl ?_
      refine x_iconst hC dX1_init_80 (q := 81) rfl (v := (2)) (by decide) ?_
      refine x_gets hC (hS.2 2 (by decide)).1 (Or.inr ⟨_, q1117⟩) dX1_init_81 (q := 84) rfl ?_
      refine x_alen hC dX1_init_84 (q := 85) rfl (n := (1003, 2)) ((AX_ne (n_fst rfl) (n_fst rfl) (n_fst rfl) (n_fst rfl)).trans (hK.a 2 rfl)) ?_
      refine x_iconst hC dX1_init_85 (q := 86) rfl (v := (1)) (by decide) ?_
      refine x_iadd hC dX1_init_86 (q := 87) rfl ?_
      refine x_callSN hC xv_X1_19 dX1_init_87 (q := 90) rfl rfl (m_X0_pick h0 _ ((AX_ne (n_fst rfl) (n_fst rfl) (n_fst rfl) (n_fst rfl)).trans hs) (k := 2) (n := 5) (by omega) (by decide) (by decide)) rfl (Nat.le_of_ble_eq_true rfl) ⟨(Nat.le_of_ble_eq_true rfl), (Nat.le_of_ble_eq_true rfl)⟩ ⟨(Nat.le_of_ble_eq_true rfl), (Nat.le_of_ble_eq_true rfl)⟩ (fun v g1 hp => ?_)
      obtain ⟨rfl, hg1⟩ := hp
      replace hg1 := hg1.symm
      subst hg1
      refine x_iconst hC dX1_init_90 (q := 91) rfl (v := (1)) (by decide) ?_
      refine x_isub hC dX1_init_91 (q := 92) rfl ?_
      refine x_putF hC hnm (n := (101, 0)) xff_X1_36_0 xd_0 rfl dX1_init_92 (q := 95) rfl rfl rfl rfl rfl ?_
      refine x_geq (g' := (AX g aa a_7 a_15 a_22 [.int (nI (aI (aOf f) 0)), .int (nI (aI (aOf f) 1)), .int (nI (pk (f 2) 5) - 1), .int 0, .int 0, .int 0, .int 0, .int 0, .int 0, .ref a_7, .ref a_15, .ref a_22] (fun _ => 0) (fun _ => 0) (fun _ => 0))) (AX_p _ _ _ _ _ _ _ _ _ rfl) ?_
      refine x_aloadr_n hC dX1_init_95 (q := 96) rfl rfl ?_
      refine x_aloadr_n hC dX1_init_96 (q := 97) rfl rfl ?_
      refine x_iconst hC dX1_init_97 (q := 98) rfl (v := (3)) (by decide) ?_
      refine x_gets hC (hS.2 3 (by decide)).1 (Or.inr ⟨_, q1119⟩) dX1_init_98 (q := 101) rfl ?_
      refine x_alen hC dX1_init_101 (q := 102) rfl (n := (1003, 3)) ((AX_ne (n_fst rfl) (n_fst rfl) (n_fst rfl) (n_fst rfl)).trans (hK.a 3 rfl)) ?_
      refine x_iconst hC dX1_init_102 (q := 103) rfl (v := (1)) (by decide) ?_
      refine x_iadd hC dX1_init_103 (q := 104) rfl ?_
      refine x_callSN hC xv_X1_19 dX1_init_104 (q := 107) rfl rfl (m_X0_pick h0 _ ((AX_ne (n_fst rfl) (n_fst rfl) (n_fst rfl) (n_fst rfl)).trans hs) (k := 3) (n := 5) (by omega) (by decide) (by decide)) rfl (Nat.le_of_ble_eq_true rfl) ⟨(Nat.le_of_ble_eq_true rfl), (Nat.le_of_ble_eq_true rfl)⟩ ⟨(Nat.le_of_ble_eq_true rfl), (Nat.le_of_ble_eq_true rfl)⟩ (fun v g1 hp => ?_)
      obtain ⟨rfl, hg1⟩ := hp
      replace hg1 := hg1.symm
      subst hg1
      refine x_iconst hC dX1_init_107 (q := 108) rfl (v := (1)) (by decide) ?_
      refine x_isub hC dX1_init_108 (q := 109) rfl ?_
      refine x_putF hC hnm (n := (101, 0)) xff_X1_42_0 xd_0 rfl dX1_init_109 (q := 112) rfl rfl rfl rfl rfl ?_
      refine x_geq (g' := (AX g aa a_7 a_15 a_22 [.int (nI (aI (aOf f) 0)), .int (nI (aI (aOf f) 1)), .int (nI (pk (f 2) 5) - 1), .int (nI (pk (f 3) 5) - 1), .int 0, .int 0, .int 0, .int 0, .int 0, .ref a_7, .ref a_15, .ref a_22] (fun _ => 0) (fun _ => 0) (fun _ => 0))) (AX_p _ _ _ _ _ _ _ _ _ rfl) ?_
      refine x_aloadr_n hC dX1_init_112 (q := 113) rfl rfl ?_
      refine x_aloadr_n hC dX1_init_113 (q := 114) rfl rfl ?_
      refine x_iconst hC dX1_init_114 (q := 115) rfl (v := (4)) (by decide) ?_
      refine x_gets hC (hS.2 4 (by decide)).1 (Or.inr ⟨_, q1121⟩) dX1_init_115 (q := 118) rfl ?_
      refine x_alen hC dX1_init_118 (q := 119) rfl (n := (1003, 4)) ((AX_ne (n_fst rfl) (n_fst rfl) (n_fst rfl) (n_fst rfl)).trans (hK.a 4 rfl)) ?_
      refine x_iconst hC dX1_init_119 (q := 120) rfl (v := (1)) (by decide) ?_
      refine x_iadd hC dX1_init_120 (q := 121) rfl ?_
      refine x_callSN hC xv_X1_19 dX1_init_121 (q := 124) rfl rfl (m_X0_pick h0 _ ((AX_ne (n_fst rfl) (n_fst rfl) (n_fst rfl) (n_fst rfl)).trans hs) (k := 4) (n := 5) (by omega) (by decide) (by decide)) rfl (Nat.le_of_ble_eq_true rfl) ⟨(Nat.le_of_ble_eq_true rfl), (Nat.le_of_ble_eq_true rfl)⟩ ⟨(Nat.le_of_ble_eq_true rfl), (Nat.le_of_ble_eq_true rfl)⟩ (fun v g1 hp => ?_)
      obtain ⟨rfl, hg1⟩ := hp
      replace hg1 := hg1.symm
      subst hg1
      refine x_iconst hC dX1_init_124 (q := 125) rfl (v := (1)) (by decide) ?_
      refine x_isub hC dX1_init_125 (q := 126) rfl ?_
      refine x_putF hC hnm (n := (101, 0)) xff_X1_48_0 xd_0 rfl dX1_init_126 (q := 129) rfl rfl rfl rfl rfl ?_
      refine x_geq (g' := (AX g aa a_7 a_15 a_22 [.int (nI (aI (aOf f) 0)), .int (nI (aI (aOf f) 1)), .int (nI (pk (f 2) 5) - 1), .int (nI (pk (f 3) 5) - 1), .int (nI (pk (f 4) 5) - 1), .int 0, .int 0, .int 0, .int 0, .ref a_7, .ref a_15, .ref a_22] (fun _ => 0) (fun _ => 0) (fun _ => 0))) (AX_p _ _ _ _ _ _ _ _ _ rfl) ?_
      refine x_aloadr_n hC dX1_init_129 (q := 130) rfl rfl ?_
      refine x_aloadr_n hC dX1_init_130 (q := 131) rfl rfl ?_
      refine x_iconst hC dX1_init_131 (q := 132) rfl (v := (5)) (by decide) ?_
      refine x_gets hC (hS.2 5 (by decide)).1 (Or.inr ⟨_, q1123⟩) dX1_init_132 (q := 135) rfl ?_
      refine x_alen hC dX1_init_135 (q := 136) rfl (n := (1003, 5)) ((AX_ne (n_fst rfl) (n_fst rfl) (n_fst rfl) (n_fst rfl)).trans (hK.a 5 rfl)) ?_
      refine x_iconst hC dX1_init_136 (q := 137) rfl (v := (1)) (by decide) ?_
      refine x_iadd hC dX1_init_137 (q := 138) rfl ?_
      refine x_callSN hC xv_X1_19 dX1_init_138 (q := 141) rfl rfl (m_X0_pick h0 _ ((AX_ne (n_fst rfl) (n_fst rfl) (n_fst rfl) (n_fst rfl)).trans hs) (k := 5) (n := 5) (by omega) (by decide) (by decide)) rfl (Nat.le_of_ble_eq_true rfl) ⟨(Nat.le_of_ble_eq_true rfl), (Nat.le_of_ble_eq_true rfl)⟩ ⟨(Nat.le_of_ble_eq_true rfl), (Nat.le_of_ble_eq_true rfl)⟩ (fun v g1 hp => ?_)
      obtain ⟨rfl, hg1⟩ := hp
      replace hg1 := hg1.symm
      subst hg1
      refine x_iconst hC dX1_init_141 (q := 142) rfl (v := (1)) (by decide) ?_
      refine x_isub hC dX1_init_142 (q := 143) rfl ?_
      refine x_putF hC hnm (n := (101, 0)) xff_X1_54_0 xd_0 rfl dX1_init_143 (q := 146) rfl rfl rfl rfl rfl ?_
      refine x_geq (g' := (AX g aa a_7 a_15 a_22 [.int (nI (aI (aOf f) 0)), .int (nI (aI (aOf f) 1)), .int (nI (pk (f 2) 5) - 1), .int (nI (pk (f 3) 5) - 1), .int (nI (pk (f 4) 5) - 1), .int (nI (pk (f 5) 5) - 1), .int 0, .int 0, .int 0, .ref a_7, .ref a_15, .ref a_22] (fun _ => 0) (fun _ => 0) (fun _ => 0))) (AX_p _ _ _ _ _ _ _ _ _ rfl) ?_
      refine x_aloadr_n hC dX1_init_146 (q := 147) rfl rfl ?_
      refine x_aloadr_n hC dX1_init_147 (q := 148) rfl rfl ?_
      refine x_bipush hC dX1_init_148 (q := 150) rfl (v := (6)) (by decide) ?_
      refine x_bipush hC dX1_init_150 (q := 152) rfl (v := (120)) (by decide) ?_
      refine x_callSN hC xv_X1_19 dX1_init_152 (q := 155) rfl rfl (m_X0_pick h0 _ ((AX_ne (n_fst rfl) (n_fst rfl) (n_fst rfl) (n_fst rfl)).trans hs) (k := 6) (n := 120) (by omega) (by decide) (by decide)) rfl (Nat.le_of_ble_eq_true rfl) ⟨(Nat.le_of_ble_eq_true rfl), (Nat.le_of_ble_eq_true rfl)⟩ ⟨(Nat.le_of_ble_eq_true rfl), (Nat.le_of_ble_eq_true rfl)⟩ (fun v g1 hp => ?_)
      obtain ⟨rfl, hg1⟩ := hp
      replace hg1 := hg1.symm
      subst hg1
      refine x_putF hC hnm (n := (101, 0)) xff_X1_57_0 xd_0 rfl dX1_init_155 (q := 158) rfl rfl rfl rfl rfl ?_
      refine x_geq (g' := (AX g aa a_7 a_15 a_22 [.int (nI (aI (aOf f) 0)), .int (nI (aI (aOf f) 1)), .int (nI (pk (f 2) 5) - 1), .int (nI (pk (f 3) 5) - 1), .int (nI (pk (f 4) 5) - 1), .int (nI (pk (f 5) 5) - 1), .int (nI (aI (aOf f) 6)), .int 0, .int 0, .ref a_7, .ref a_15, .ref a_22] (fun _ => 0) (fun _ => 0) (fun _ => 0))) (AX_p _ _ _ _ _ _ _ _ _ rfl) ?_
      refine x_aloadr_n hC dX1_init_158 (q := 159) rfl rfl ?_
      refine x_aloadr_n hC dX1_init_159 (q := 160) rfl rfl ?_
      refine x_bipush hC dX1_init_160 (q := 162) rfl (v := (7)) (by decide) ?_
      refine x_bipush hC dX1_init_162 (q := 164) rfl (v := (30)) (by decide) ?_
      refine x_callSN hC xv_X1_19 dX1_init_164 (q := 167) rfl rfl (m_X0_pick h0 _ ((AX_ne (n_fst rfl) (n_fst rfl) (n_fst rfl) (n_fst rfl)).trans hs) (k := 7) (n := 30) (by omega) (by decide) (by decide)) rfl (Nat.le_of_ble_eq_true rfl) ⟨(Nat.le_of_ble_eq_true rfl), (Nat.le_of_ble_eq_true rfl)⟩ ⟨(Nat.le_of_ble_eq_true rfl), (Nat.le_of_ble_eq_true rfl)⟩ (fun v g1 hp => ?_)
      obtain ⟨rfl, hg1⟩ := hp
      replace hg1 := hg1.symm
      subst hg1
      refine x_putF hC hnm (n := (101, 0)) xff_X1_60_0 xd_0 rfl dX1_init_167 (q := 170) rfl rfl rfl rfl rfl ?_
      refine x_geq (g' := (AX g aa a_7 a_15 a_22 [.int (nI (aI (aOf f) 0)), .int (nI (aI (aOf f) 1)), .int (nI (pk (f 2) 5) - 1), .int (nI (pk (f 3) 5) - 1), .int (nI (pk (f 4) 5) - 1), .int (nI (pk (f 5) 5) - 1), .int (nI (aI (aOf f) 6)), .int (nI (aI (aOf f) 7)), .int 0, .ref a_7, .ref a_15, .ref a_22] (fun _ => 0) (fun _ => 0) (fun _ => 0))) (AX_p _ _ _ _ _ _ _ _ _ rfl) ?_
      refine x_aloadr_n hC dX1_init_170 (q := 171) rfl rfl ?_
      refine x_aloadr_n hC dX1_init_171 (q := 172) rfl rfl ?_
      refine x_bipush hC dX1_init_172 (q := 174) rfl (v := (8)) (by decide) ?_
      refine x_bipush hC dX1_init_174 (q := 176) rfl (v := (101)) (by decide) ?_
      refine x_callSN hC xv_X1_19 dX1_init_176 (q := 179) rfl rfl (m_X0_pick h0 _ ((AX_ne (n_fst rfl) (n_fst rfl) (n_fst rfl) (n_fst rfl)).trans hs) (k := 8) (n := 101) (by omega) (by decide) (by decide)) rfl (Nat.le_of_ble_eq_true rfl) ⟨(Nat.le_of_ble_eq_true rfl), (Nat.le_of_ble_eq_true rfl)⟩ ⟨(Nat.le_of_ble_eq_true rfl), (Nat.le_of_ble_eq_true rfl)⟩ (fun v g1 hp => ?_)
      obtain ⟨rfl, hg1⟩ := hp
      replace hg1 := hg1.symm
      subst hg1
      refine x_putF hC hnm (n := (101, 0)) xff_X1_63_0 xd_0 rfl dX1_init_179 (q := 182) rfl rfl rfl rfl rfl ?_
      refine x_geq (g' := (AX g aa a_7 a_15 a_22 [.int (nI (aI (aOf f) 0)), .int (nI (aI (aOf f) 1)), .int (nI (pk (f 2) 5) - 1), .int (nI (pk (f 3) 5) - 1), .int (nI (pk (f 4) 5) - 1), .int (nI (pk (f 5) 5) - 1), .int (nI (aI (aOf f) 6)), .int (nI (aI (aOf f) 7)), .int (nI (aI (aOf f) 8)), .ref a_7, .ref a_15, .ref a_22] (fun _ => 0) (fun _ => 0) (fun _ => 0))) (AX_p _ _ _ _ _ _ _ _ _ rfl) ?_
      refine x_iconst hC dX1_init_182 (q := 183) rfl (v := (0)) (by decide) ?_
      refine x_istore hC dX1_init_183 (q := 185) rfl rfl ?_
      have hz0 : (fun _ : Nat => (0 : Int32)) = aF (aCl (aOf f)) 0 := by funext k; unfold aF; rw [if_neg (Nat.not_lt_zero k)]
      have hz1 : (fun _ : Nat => (0 : Int32)) = aF (aGr (aOf f)) 0 := by funext k; unfold aF; rw [if_neg (Nat.not_lt_zero k)]
      refine x_geq (g' := AX g aa a_7 a_15 a_22 [.int (nI (aI (aOf f) 0)), .int (nI (aI (aOf f) 1)), .int (nI (pk (f 2) 5) - 1), .int (nI (pk (f 3) 5) - 1), .int (nI (pk (f 4) 5) - 1), .int (nI (pk (f 5) 5) - 1), .int (nI (aI (aOf f) 6)), .int (nI (aI (aOf f) 7)), .int (nI (aI (aOf f) 8)), .ref a_7, .ref a_15, .ref a_22] (aF (aCl (aOf f)) 0) (aF (aGr (aOf f)) 0) (fun _ => 0)) (by rw [← hz0, ← hz1]) ?_
      refine x_loop (S := (fun x : Nat => ((3 : Nat), (15 : Nat), AX g aa a_7 a_15 a_22 [.int (nI (aI (aOf f) 0)), .int (nI (aI (aOf f) 1)), .int (nI (pk (f 2) 5) - 1), .int (nI (pk (f 3) 5) - 1), .int (nI (pk (f 4) 5) - 1), .int (nI (pk (f 5) 5) - 1), .int (nI (aI (aOf f) 6)), .int (nI (aI (aOf f) 7)), .int (nI (aI (aOf f) 8)), .ref a_7, .ref a_15, .ref a_22] (aF (aCl (aOf f)) x) (aF (aGr (aOf f)) x) (fun _ => 0), ([some (.ref aa), some (.ref sa), some (.int (nI (pk (f 0) 13))), some (.int (nI (pk (f 1) 10))), some (.int (nI x))] : xL), ([] : List Value)))) (Inv := fun x => x ≤ aI (aOf f) 0) (μ := fun x => aI (aOf f) 0 - x) ?_ 0 (Nat.zero_le _)
      intro i hi ih
      dsimp only at hi ih ⊢
      refine x_iload hC dX1_init_185 (q := 187) rfl rfl ?_
      refine x_aloadr_n hC dX1_init_187 (q := 188) rfl rfl ?_
      refine x_get hC xf_X1_25_0 dX1_init_188 (q := 191) rfl (n := (101, 0)) rfl rfl ?_
      refine x_icmp_ge hC dX1_init_191 (q := 194) rfl (tgt := 240) rfl (fun h191 => ?_) (fun h191 => ?_)
      · have hj3 : i = aI (aOf f) 0 := by
          have := (nI_leI (by omega) (by omega)).mp (show nI (aI (aOf f) 0) ≤ nI i from h191)
          omega
        subst hj3
        refine x_iconst hC dX1_init_240 (q := 241) rfl (v := (0)) (by decide) ?_
        refine x_istore hC dX1_init_241 (q := 243) rfl rfl ?_
        have hz2 : (fun _ : Nat => (0 : Int32)) = aF (aRo (aOf f)) 0 := by funext k; unfold aF; rw [if_neg (Nat.not_lt_zero k)]
        refine x_geq (g' := AX g aa a_7 a_15 a_22 [.int (nI (aI (aOf f) 0)), .int (nI (aI (aOf f) 1)), .int (nI (pk (f 2) 5) - 1), .int (nI (pk (f 3) 5) - 1), .int (nI (pk (f 4) 5) - 1), .int (nI (pk (f 5) 5) - 1), .int (nI (aI (aOf f) 6)), .int (nI (aI (aOf f) 7)), .int (nI (aI (aOf f) 8)), .ref a_7, .ref a_15, .ref a_22] (aF (aCl (aOf f)) (aI (aOf f) 0)) (aF (aGr (aOf f)) (aI (aOf f) 0)) (aF (aRo (aOf f)) 0)) (by rw [← hz2]) ?_
        refine x_loop (S := (fun x : Nat => ((3 : Nat), (15 : Nat), AX g aa a_7 a_15 a_22 [.int (nI (aI (aOf f) 0)), .int (nI (aI (aOf f) 1)), .int (nI (pk (f 2) 5) - 1), .int (nI (pk (f 3) 5) - 1), .int (nI (pk (f 4) 5) - 1), .int (nI (pk (f 5) 5) - 1), .int (nI (aI (aOf f) 6)), .int (nI (aI (aOf f) 7)), .int (nI (aI (aOf f) 8)), .ref a_7, .ref a_15, .ref a_22] (aF (aCl (aOf f)) (aI (aOf f) 0)) (aF (aGr (aOf f)) (aI (aOf f) 0)) (aF (aRo (aOf f)) x), ([some (.ref aa), some (.ref sa), some (.int (nI (pk (f 0) 13))), some (.int (nI (pk (f 1) 10))), some (.int (nI x))] : xL), ([] : List Value)))) (Inv := fun x => x ≤ aI (aOf f) 1) (μ := fun x => aI (aOf f) 1 - x) ?_ 0 (Nat.zero_le _)
        intro i hi ih
        dsimp only at hi ih ⊢
        refine x_iload hC dX1_init_243 (q := 245) rfl rfl ?_
        refine x_aloadr_n hC dX1_init_245 (q := 246) rfl rfl ?_
        refine x_get hC xf_X1_29_0 dX1_init_246 (q := 249) rfl (n := (101, 0)) rfl rfl ?_
        refine x_icmp_ge hC dX1_init_249 (q := 252) rfl (tgt := 278) rfl (fun h249 => ?_) (fun h249 => ?_)
        · have hj3 : i = aI (aOf f) 1 := by
            have := (nI_leI (by omega) (by omega)).mp (show nI (aI (aOf f) 1) ≤ nI i from h249)
            omega
          subst hj3
          exact x_vret hC hr dX1_init_278 (Nat.le_of_ble_eq_true rfl) (Nat.le_of_ble_eq_true rfl) ⟨a_7, a_15, a_22, rfl, by rw [nI_m, nI_m, nI_m, nI_m]; rfl⟩
        have hj2 : i < aI (aOf f) 1 := Nat.lt_of_not_le (fun q => h249 (show nI (aI (aOf f) 1) ≤ nI i from nI_le q (by omega)))
        refine x_aloadr_n hC dX1_init_252 (q := 253) rfl rfl ?_
        refine x_get hC xf_X1_16_0 dX1_init_253 (q := 256) rfl (n := (101, 0)) rfl rfl ?_
        refine x_iload hC dX1_init_256 (q := 258) rfl rfl ?_
        refine x_iconst hC dX1_init_258 (q := 259) rfl (v := (1)) (by decide) ?_
        refine x_aloadr_n hC dX1_init_259 (q := 260) rfl rfl ?_
        refine x_bipush hC dX1_init_260 (q := 262) rfl (v := (21)) (by decide) ?_
        refine x_iload hC dX1_init_262 (q := 264) rfl rfl ?_
        refine x_iadd hC dX1_init_264 (q := 265) rfl ?_
        refine x_bipush hC dX1_init_265 (q := 267) rfl (v := (6)) (by decide) ?_
        rw [show (21 : Int32) + nI i = nI (21 + i) from by rw [show (21 : Int32) = nI 21 from rfl, nI_add]]
        refine x_callSN hC xv_X1_19 dX1_init_267 (q := 270) rfl rfl (m_X0_pick h0 _ ((AX_ne (n_fst rfl) (n_fst rfl) (n_fst rfl) (n_fst rfl)).trans hs) (k := 21 + i) (n := 6) (by omega) (by decide) (by decide)) rfl (Nat.le_of_ble_eq_true rfl) ⟨(Nat.le_of_ble_eq_true rfl), (Nat.le_of_ble_eq_true rfl)⟩ ⟨(Nat.le_of_ble_eq_true rfl), (Nat.le_of_ble_eq_true rfl)⟩ (fun v g1 hp => ?_)
        obtain ⟨rfl, hg1⟩ := hp
        replace hg1 := hg1.symm
        subst hg1
        refine x_iadd hC dX1_init_270 (q := 271) rfl ?_
        rw [show (1 : Int32) + nI (pk (f (21 + i)) 6) = nI (aRo (aOf f) i) from by rw [show (1 : Int32) = nI 1 from rfl, nI_add]; rfl]
        refine x_iast hC dX1_init_271 (q := 272) rfl (n := (104, 0)) rfl rfl (j := i) rfl (by omega) (by decide) ?_
        rw [AX_r]
        refine x_geq (congrArg (fun t => AX g aa a_7 a_15 a_22 _ _ _ t) (aF_up (aRo (aOf f)) i)) ?_
        refine x_iinc hC dX1_init_272 (q := 275) rfl rfl (v := nI (i + 1)) (nI_1 i) ?_
        refine x_goto hC dX1_init_275 (tgt := 243) rfl ?_
        exact ih (i + 1) (by (try dsimp only); omega) (by (try dsimp only); omega)
      have hj2 : i < aI (aOf f) 0 := Nat.lt_of_not_le (fun q => h191 (show nI (aI (aOf f) 0) ≤ nI i from nI_le q (by omega)))
      refine x_aloadr_n hC dX1_init_194 (q := 195) rfl rfl ?_
      refine x_get hC xf_X1_7_0 dX1_init_195 (q := 198) rfl (n := (101, 0)) rfl rfl ?_
      refine x_iload hC dX1_init_198 (q := 200) rfl rfl ?_
      refine x_aloadr_n hC dX1_init_200 (q := 201) rfl rfl ?_
      refine x_bipush hC dX1_init_201 (q := 203) rfl (v := (9)) (by decide) ?_
      refine x_iconst hC dX1_init_203 (q := 204) rfl (v := (2)) (by decide) ?_
      refine x_iload hC dX1_init_204 (q := 206) rfl rfl ?_
      refine x_imul hC dX1_init_206 (q := 207) rfl ?_
      refine x_iadd hC dX1_init_207 (q := 208) rfl ?_
      refine x_bipush hC dX1_init_208 (q := 210) rfl (v := (80)) (by decide) ?_
      rw [show (9 : Int32) + 2 * nI i = nI (9 + 2 * i) from by rw [show (2 : Int32) = nI 2 from rfl, nI_mu, show (9 : Int32) = nI 9 from rfl, nI_add]]
      refine x_callSN hC xv_X1_19 dX1_init_210 (q := 213) rfl rfl (m_X0_pick h0 _ ((AX_ne (n_fst rfl) (n_fst rfl) (n_fst rfl) (n_fst rfl)).trans hs) (k := 9 + 2 * i) (n := 80) (by omega) (by decide) (by decide)) rfl (Nat.le_of_ble_eq_true rfl) ⟨(Nat.le_of_ble_eq_true rfl), (Nat.le_of_ble_eq_true rfl)⟩ ⟨(Nat.le_of_ble_eq_true rfl), (Nat.le_of_ble_eq_true rfl)⟩ (fun v g1 hp => ?_)
      obtain ⟨rfl, hg1⟩ := hp
      replace hg1 := hg1.symm
      subst hg1
      refine x_iast hC dX1_init_213 (q := 214) rfl (n := (102, 0)) rfl rfl (j := i) rfl (by omega) (by decide) ?_
      rw [AX_c]
      refine x_geq (congrArg (fun t => AX g aa a_7 a_15 a_22 _ t _ _) (aF_up (aCl (aOf f)) i)) ?_
      refine x_aloadr_n hC dX1_init_214 (q := 215) rfl rfl ?_
      refine x_get hC xf_X1_13_0 dX1_init_215 (q := 218) rfl (n := (101, 0)) rfl rfl ?_
      refine x_iload hC dX1_init_218 (q := 220) rfl rfl ?_
      refine x_aloadr_n hC dX1_init_220 (q := 221) rfl rfl ?_
      refine x_bipush hC dX1_init_221 (q := 223) rfl (v := (10)) (by decide) ?_
      refine x_iconst hC dX1_init_223 (q := 224) rfl (v := (2)) (by decide) ?_
      refine x_iload hC dX1_init_224 (q := 226) rfl rfl ?_
      refine x_imul hC dX1_init_226 (q := 227) rfl ?_
      refine x_iadd hC dX1_init_227 (q := 228) rfl ?_
      refine x_bipush hC dX1_init_228 (q := 230) rfl (v := (10)) (by decide) ?_
      rw [show (10 : Int32) + 2 * nI i = nI (10 + 2 * i) from by rw [show (2 : Int32) = nI 2 from rfl, nI_mu, show (10 : Int32) = nI 10 from rfl, nI_add]]
      refine x_callSN hC xv_X1_19 dX1_init_230 (q := 233) rfl rfl (m_X0_pick h0 _ ((AX_ne (n_fst rfl) (n_fst rfl) (n_fst rfl) (n_fst rfl)).trans hs) (k := 10 + 2 * i) (n := 10) (by omega) (by decide) (by decide)) rfl (Nat.le_of_ble_eq_true rfl) ⟨(Nat.le_of_ble_eq_true rfl), (Nat.le_of_ble_eq_true rfl)⟩ ⟨(Nat.le_of_ble_eq_true rfl), (Nat.le_of_ble_eq_true rfl)⟩ (fun v g1 hp => ?_)
      obtain ⟨rfl, hg1⟩ := hp
      replace hg1 := hg1.symm
      subst hg1
      refine x_iast hC dX1_init_233 (q := 234) rfl (n := (103, 0)) rfl rfl (j := i) rfl (by omega) (by decide) ?_
      rw [AX_g]
      refine x_geq (congrArg (fun t => AX g aa a_7 a_15 a_22 _ _ t _) (aF_up (aGr (aOf f)) i)) ?_
      refine x_iinc hC dX1_init_234 (q := 237) rfl rfl (v := nI (i + 1)) (nI_1 i) ?_
      refine x_goto hC dX1_init_237 (tgt := 185) rfl ?_
      exact ih (i + 1) (by (try dsimp only); omega) (by (try dsimp only); omega)
    refine x_iconst hC dX1_init_66 (q := 67) rfl (v := (0)) (by decide) ?_
    refine x_goto hC dX1_init_67 (tgt := 75) rfl ?_
    refine x_putF hC hnm (n := (101, 0)) xff_X1_29_0 xd_0 rfl dX1_init_75 (q := 78) rfl rfl rfl rfl rfl ?_
    refine x_geq (g' := (AX g aa a_7 a_15 a_22 [.int (nI (aI (aOf f) 0)), .int (nI (aI (aOf f) 1)), .int 0, .int 0, .int 0, .int 0, .int 0, .int 0, .int 0, .ref a_7, .ref a_15, .ref a_22] (fun _ => 0) (fun _ => 0) (fun _ => 0))) (AX_p _ _ _ _ _ _ _ _ _ (by first | (rw [show nI (aI (aOf f) 1) = _ from aOf_0t (f := f) (n := 10) (j := 1) (m := 3) (by decide) (by assumption)]; rfl) | (rw [show nI (aI (aOf f) 1) = _ from aOf_0f (f := f) (n := 10) (j := 1) (m := 3) (by decide) (by assumption)]; rfl))) ?_
    refine x_aloadr_n hC dX1_init_78 (q := 79) rfl rfl ?_
    refine x_aloadr_n hC dX1_init_79 (q := 80) rfl rfl ?_
    refine x_iconst hC dX1_init_80 (q := 81) rfl (v := (2)) (by decide) ?_
    refine x_gets hC (hS.2 2 (by decide)).1 (Or.inr ⟨_, q1117⟩) dX1_init_81 (q := 84) rfl ?_
    refine x_alen hC dX1_init_84 (q := 85) rfl (n := (1003, 2)) ((AX_ne (n_fst rfl) (n_fst rfl) (n_fst rfl) (n_fst rfl)).trans (hK.a 2 rfl)) ?_
    refine x_iconst hC dX1_init_85 (q := 86) rfl (v := (1)) (by decide) ?_
    refine x_iadd hC dX1_init_86 (q := 87) rfl ?_
    refine x_callSN hC xv_X1_19 dX1_init_87 (q := 90) rfl rfl (m_X0_pick h0 _ ((AX_ne (n_fst rfl) (n_fst rfl) (n_fst rfl) (n_fst rfl)).trans hs) (k := 2) (n := 5) (by omega) (by decide) (by decide)) rfl (Nat.le_of_ble_eq_true rfl) ⟨(Nat.le_of_ble_eq_true rfl), (Nat.le_of_ble_eq_true rfl)⟩ ⟨(Nat.le_of_ble_eq_true rfl), (Nat.le_of_ble_eq_true rfl)⟩ (fun v g1 hp => ?_)
    obtain ⟨rfl, hg1⟩ := hp
    replace hg1 := hg1.symm
    subst hg1
    refine x_iconst hC dX1_init_90 (q := 91) rfl (v := (1)) (by decide) ?_
    refine x_isub hC dX1_init_91 (q := 92) rfl ?_
    refine x_putF hC hnm (n := (101, 0)) xff_X1_36_0 xd_0 rfl dX1_init_92 (q := 95) rfl rfl rfl rfl rfl ?_
    refine x_geq (g' := (AX g aa a_7 a_15 a_22 [.int (nI (aI (aOf f) 0)), .int (nI (aI (aOf f) 1)), .int (nI (pk (f 2) 5) - 1), .int 0, .int 0, .int 0, .int 0, .int 0, .int 0, .ref a_7, .ref a_15, .ref a_22] (fun _ => 0) (fun _ => 0) (fun _ => 0))) (AX_p _ _ _ _ _ _ _ _ _ rfl) ?_
    refine x_aloadr_n hC dX1_init_95 (q := 96) rfl rfl ?_
    refine x_aloadr_n hC dX1_init_96 (q := 97) rfl rfl ?_
    refine x_iconst hC dX1_init_97 (q := 98) rfl (v := (3)) (by decide) ?_
    refine x_gets hC (hS.2 3 (by decide)).1 (Or.inr ⟨_, q1119⟩) dX1_init_98 (q := 101) rfl ?_
    refine x_alen hC dX1_init_101 (q := 102) rfl (n := (1003, 3)) ((AX_ne (n_fst rfl) (n_fst rfl) (n_fst rfl) (n_fst rfl)).trans (hK.a 3 rfl)) ?_
    refine x_iconst hC dX1_init_102 (q := 103) rfl (v := (1)) (by decide) ?_
    refine x_iadd hC dX1_init_103 (q := 104) rfl ?_
    refine x_callSN hC xv_X1_19 dX1_init_104 (q := 107) rfl rfl (m_X0_pick h0 _ ((AX_ne (n_fst rfl) (n_fst rfl) (n_fst rfl) (n_fst rfl)).trans hs) (k := 3) (n := 5) (by omega) (by decide) (by decide)) rfl (Nat.le_of_ble_eq_true rfl) ⟨(Nat.le_of_ble_eq_true rfl), (Nat.le_of_ble_eq_true rfl)⟩ ⟨(Nat.le_of_ble_eq_true rfl), (Nat.le_of_ble_eq_true rfl)⟩ (fun v g1 hp => ?_)
    obtain ⟨rfl, hg1⟩ := hp
    replace hg1 := hg1.symm
    subst hg1
    refine x_iconst hC dX1_init_107 (q := 108) rfl (v := (1)) (by decide) ?_
    refine x_isub hC dX1_init_108 (q := 109) rfl ?_
    refine x_putF hC hnm (n := (101, 0)) xff_X1_42_0 xd_0 rfl dX1_init_109 (q := 112) rfl rfl rfl rfl rfl ?_
    refine x_geq (g' := (AX g aa a_7 a_15 a_22 [.int (nI (aI (aOf f) 0)), .int (nI (aI (aOf f) 1)), .int (nI (pk (f 2) 5) - 1), .int (nI (pk (f 3) 5) - 1), .int 0, .int 0, .int 0, .int 0, .int 0, .ref a_7, .ref a_15, .ref a_22] (fun _ => 0) (fun _ => 0) (fun _ => 0))) (AX_p _ _ _ _ _ _ _ _ _ rfl) ?_
    refine x_aloadr_n hC dX1_init_112 (q := 113) rfl rfl ?_
    refine x_aloadr_n hC dX1_init_113 (q := 114) rfl rfl ?_
    refine x_iconst hC dX1_init_114 (q := 115) rfl (v := (4)) (by decide) ?_
    refine x_gets hC (hS.2 4 (by decide)).1 (Or.inr ⟨_, q1121⟩) dX1_init_115 (q := 118) rfl ?_
    refine x_alen hC dX1_init_118 (q := 119) rfl (n := (1003, 4)) ((AX_ne (n_fst rfl) (n_fst rfl) (n_fst rfl) (n_fst rfl)).trans (hK.a 4 rfl)) ?_
    refine x_iconst hC dX1_init_119 (q := 120) rfl (v := (1)) (by decide) ?_
    refine x_iadd hC dX1_init_120 (q := 121) rfl ?_
    refine x_callSN hC xv_X1_19 dX1_init_121 (q := 124) rfl rfl (m_X0_pick h0 _ ((AX_ne (n_fst rfl) (n_fst rfl) (n_fst rfl) (n_fst rfl)).trans hs) (k := 4) (n := 5) (by omega) (by decide) (by decide)) rfl (Nat.le_of_ble_eq_true rfl) ⟨(Nat.le_of_ble_eq_true rfl), (Nat.le_of_ble_eq_true rfl)⟩ ⟨(Nat.le_of_ble_eq_true rfl), (Nat.le_of_ble_eq_true rfl)⟩ (fun v g1 hp => ?_)
    obtain ⟨rfl, hg1⟩ := hp
    replace hg1 := hg1.symm
    subst hg1
    refine x_iconst hC dX1_init_124 (q := 125) rfl (v := (1)) (by decide) ?_
    refine x_isub hC dX1_init_125 (q := 126) rfl ?_
    refine x_putF hC hnm (n := (101, 0)) xff_X1_48_0 xd_0 rfl dX1_init_126 (q := 129) rfl rfl rfl rfl rfl ?_
    refine x_geq (g' := (AX g aa a_7 a_15 a_22 [.int (nI (aI (aOf f) 0)), .int (nI (aI (aOf f) 1)), .int (nI (pk (f 2) 5) - 1), .int (nI (pk (f 3) 5) - 1), .int (nI (pk (f 4) 5) - 1), .int 0, .int 0, .int 0, .int 0, .ref a_7, .ref a_15, .ref a_22] (fun _ => 0) (fun _ => 0) (fun _ => 0))) (AX_p _ _ _ _ _ _ _ _ _ rfl) ?_
    refine x_aloadr_n hC dX1_init_129 (q := 130) rfl rfl ?_
    refine x_aloadr_n hC dX1_init_130 (q := 131) rfl rfl ?_
    refine x_iconst hC dX1_init_131 (q := 132) rfl (v := (5)) (by decide) ?_
    refine x_gets hC (hS.2 5 (by decide)).1 (Or.inr ⟨_, q1123⟩) dX1_init_132 (q := 135) rfl ?_
    refine x_alen hC dX1_init_135 (q := 136) rfl (n := (1003, 5)) ((AX_ne (n_fst rfl) (n_fst rfl) (n_fst rfl) (n_fst rfl)).trans (hK.a 5 rfl)) ?_
    refine x_iconst hC dX1_init_136 (q := 137) rfl (v := (1)) (by decide) ?_
    refine x_iadd hC dX1_init_137 (q := 138) rfl ?_
    refine x_callSN hC xv_X1_19 dX1_init_138 (q := 141) rfl rfl (m_X0_pick h0 _ ((AX_ne (n_fst rfl) (n_fst rfl) (n_fst rfl) (n_fst rfl)).trans hs) (k := 5) (n := 5) (by omega) (by decide) (by decide)) rfl (Nat.le_of_ble_eq_true rfl) ⟨(Nat.le_of_ble_eq_true rfl), (Nat.le_of_ble_eq_true rfl)⟩ ⟨(Nat.le_of_ble_eq_true rfl), (Nat.le_of_ble_eq_true rfl)⟩ (fun v g1 hp => ?_)
    obtain ⟨rfl, hg1⟩ := hp
    replace hg1 := hg1.symm
    subst hg1
    refine x_iconst hC dX1_init_141 (q := 142) rfl (v := (1)) (by decide) ?_
    refine x_isub hC dX1_init_142 (q := 143) rfl ?_
    refine x_putF hC hnm (n := (101, 0)) xff_X1_54_0 xd_0 rfl dX1_init_143 (q := 146) rfl rfl rfl rfl rfl ?_
    refine x_geq (g' := (AX g aa a_7 a_15 a_22 [.int (nI (aI (aOf f) 0)), .int (nI (aI (aOf f) 1)), .int (nI (pk (f 2) 5) - 1), .int (nI (pk (f 3) 5) - 1), .int (nI (pk (f 4) 5) - 1), .int (nI (pk (f 5) 5) - 1), .int 0, .int 0, .int 0, .ref a_7, .ref a_15, .ref a_22] (fun _ => 0) (fun _ => 0) (fun _ => 0))) (AX_p _ _ _ _ _ _ _ _ _ rfl) ?_
    refine x_aloadr_n hC dX1_init_146 (q := 147) rfl rfl ?_
    refine x_aloadr_n hC dX1_init_147 (q := 148) rfl rfl ?_
    refine x_bipush hC dX1_init_148 (q := 150) rfl (v := (6)) (by decide) ?_
    refine x_bipush hC dX1_init_150 (q := 152) rfl (v := (120)) (by decide) ?_
    refine x_callSN hC xv_X1_19 dX1_init_152 (q := 155) rfl rfl (m_X0_pick h0 _ ((AX_ne (n_fst rfl) (n_fst rfl) (n_fst rfl) (n_fst rfl)).trans hs) (k := 6) (n := 120) (by omega) (by decide) (by decide)) rfl (Nat.le_of_ble_eq_true rfl) ⟨(Nat.le_of_ble_eq_true rfl), (Nat.le_of_ble_eq_true rfl)⟩ ⟨(Nat.le_of_ble_eq_true rfl), (Nat.le_of_ble_eq_true rfl)⟩ (fun v g1 hp => ?_)
    obtain ⟨rfl, hg1⟩ := hp
    replace hg1 := hg1.symm
    subst hg1
    refine x_putF hC hnm (n := (101, 0)) xff_X1_57_0 xd_0 rfl dX1_init_155 (q := 158) rfl rfl rfl rfl rfl ?_
    refine x_geq (g' := (AX g aa a_7 a_15 a_22 [.int (nI (aI (aOf f) 0)), .int (nI (aI (aOf f) 1)), .int (nI (pk (f 2) 5) - 1), .int (nI (pk (f 3) 5) - 1), .int (nI (pk (f 4) 5) - 1), .int (nI (pk (f 5) 5) - 1), .int (nI (aI (aOf f) 6)), .int 0, .int 0, .ref a_7, .ref a_15, .ref a_22] (fun _ => 0) (fun _ => 0) (fun _ => 0))) (AX_p _ _ _ _ _ _ _ _ _ rfl) ?_
    refine x_aloadr_n hC dX1_init_158 (q := 159) rfl rfl ?_
    refine x_aloadr_n hC dX1_init_159 (q := 160) rfl rfl ?_
    refine x_bipush hC dX1_init_160 (q := 162) rfl (v := (7)) (by decide) ?_
    refine x_bipush hC dX1_init_162 (q := 164) rfl (v := (30)) (by decide) ?_
    refine x_callSN hC xv_X1_19 dX1_init_164 (q := 167) rfl rfl (m_X0_pick h0 _ ((AX_ne (n_fst rfl) (n_fst rfl) (n_fst rfl) (n_fst rfl)).trans hs) (k := 7) (n := 30) (by omega) (by decide) (by decide)) rfl (Nat.le_of_ble_eq_true rfl) ⟨(Nat.le_of_ble_eq_true rfl), (Nat.le_of_ble_eq_true rfl)⟩ ⟨(Nat.le_of_ble_eq_true rfl), (Nat.le_of_ble_eq_true rfl)⟩ (fun v g1 hp => ?_)
    obtain ⟨rfl, hg1⟩ := hp
    replace hg1 := hg1.symm
    subst hg1
    refine x_putF hC hnm (n := (101, 0)) xff_X1_60_0 xd_0 rfl dX1_init_167 (q := 170) rfl rfl rfl rfl rfl ?_
    refine x_geq (g' := (AX g aa a_7 a_15 a_22 [.int (nI (aI (aOf f) 0)), .int (nI (aI (aOf f) 1)), .int (nI (pk (f 2) 5) - 1), .int (nI (pk (f 3) 5) - 1), .int (nI (pk (f 4) 5) - 1), .int (nI (pk (f 5) 5) - 1), .int (nI (aI (aOf f) 6)), .int (nI (aI (aOf f) 7)), .int 0, .ref a_7, .ref a_15, .ref a_22] (fun _ => 0) (fun _ => 0) (fun _ => 0))) (AX_p _ _ _ _ _ _ _ _ _ rfl) ?_
    refine x_aloadr_n hC dX1_init_170 (q := 171) rfl rfl ?_
    refine x_aloadr_n hC dX1_init_171 (q := 172) rfl rfl ?_
    refine x_bipush hC dX1_init_172 (q := 174) rfl (v := (8)) (by decide) ?_
    refine x_bipush hC dX1_init_174 (q := 176) rfl (v := (101)) (by decide) ?_
    refine x_callSN hC xv_X1_19 dX1_init_176 (q := 179) rfl rfl (m_X0_pick h0 _ ((AX_ne (n_fst rfl) (n_fst rfl) (n_fst rfl) (n_fst rfl)).trans hs) (k := 8) (n := 101) (by omega) (by decide) (by decide)) rfl (Nat.le_of_ble_eq_true rfl) ⟨(Nat.le_of_ble_eq_true rfl), (Nat.le_of_ble_eq_true rfl)⟩ ⟨(Nat.le_of_ble_eq_true rfl), (Nat.le_of_ble_eq_true rfl)⟩ (fun v g1 hp => ?_)
    obtain ⟨rfl, hg1⟩ := hp
    replace hg1 := hg1.symm
    subst hg1
    refine x_putF hC hnm (n := (101, 0)) xff_X1_63_0 xd_0 rfl dX1_init_179 (q := 182) rfl rfl rfl rfl rfl ?_
    refine x_geq (g' := (AX g aa a_7 a_15 a_22 [.int (nI (aI (aOf f) 0)), .int (nI (aI (aOf f) 1)), .int (nI (pk (f 2) 5) - 1), .int (nI (pk (f 3) 5) - 1), .int (nI (pk (f 4) 5) - 1), .int (nI (pk (f 5) 5) - 1), .int (nI (aI (aOf f) 6)), .int (nI (aI (aOf f) 7)), .int (nI (aI (aOf f) 8)), .ref a_7, .ref a_15, .ref a_22] (fun _ => 0) (fun _ => 0) (fun _ => 0))) (AX_p _ _ _ _ _ _ _ _ _ rfl) ?_
    refine x_iconst hC dX1_init_182 (q := 183) rfl (v := (0)) (by decide) ?_
    refine x_istore hC dX1_init_183 (q := 185) rfl rfl ?_
    have hz0 : (fun _ : Nat => (0 : Int32)) = aF (aCl (aOf f)) 0 := by funext k; unfold aF; rw [if_neg (Nat.not_lt_zero k)]
    have hz1 : (fun _ : Nat => (0 : Int32)) = aF (aGr (aOf f)) 0 := by funext k; unfold aF; rw [if_neg (Nat.not_lt_zero k)]
    refine x_geq (g' := AX g aa a_7 a_15 a_22 [.int (nI (aI (aOf f) 0)), .int (nI (aI (aOf f) 1)), .int (nI (pk (f 2) 5) - 1), .int (nI (pk (f 3) 5) - 1), .int (nI (pk (f 4) 5) - 1), .int (nI (pk (f 5) 5) - 1), .int (nI (aI (aOf f) 6)), .int (nI (aI (aOf f) 7)), .int (nI (aI (aOf f) 8)), .ref a_7, .ref a_15, .ref a_22] (aF (aCl (aOf f)) 0) (aF (aGr (aOf f)) 0) (fun _ => 0)) (by rw [← hz0, ← hz1]) ?_
    refine x_loop (S := (fun x : Nat => ((3 : Nat), (15 : Nat), AX g aa a_7 a_15 a_22 [.int (nI (aI (aOf f) 0)), .int (nI (aI (aOf f) 1)), .int (nI (pk (f 2) 5) - 1), .int (nI (pk (f 3) 5) - 1), .int (nI (pk (f 4) 5) - 1), .int (nI (pk (f 5) 5) - 1), .int (nI (aI (aOf f) 6)), .int (nI (aI (aOf f) 7)), .int (nI (aI (aOf f) 8)), .ref a_7, .ref a_15, .ref a_22] (aF (aCl (aOf f)) x) (aF (aGr (aOf f)) x) (fun _ => 0), ([some (.ref aa), some (.ref sa), some (.int (nI (pk (f 0) 13))), some (.int (nI (pk (f 1) 10))), some (.int (nI x))] : xL), ([] : List Value)))) (Inv := fun x => x ≤ aI (aOf f) 0) (μ := fun x => aI (aOf f) 0 - x) ?_ 0 (Nat.zero_le _)
    intro i hi ih
    dsimp only at hi ih ⊢
    refine x_iload hC dX1_init_185 (q := 187) rfl rfl ?_
    refine x_aloadr_n hC dX1_init_187 (q := 188) rfl rfl ?_
    refine x_get hC xf_X1_25_0 dX1_init_188 (q := 191) rfl (n := (101, 0)) rfl rfl ?_
    refine x_icmp_ge hC dX1_init_191 (q := 194) rfl (tgt := 240) rfl (fun h191 => ?_) (fun h191 => ?_)
    · have hj3 : i = aI (aOf f) 0 := by
        have := (nI_leI (by omega) (by omega)).mp (show nI (aI (aOf f) 0) ≤ nI i from h191)
        omega
      subst hj3
      refine x_iconst hC dX1_init_240 (q := 241) rfl (v := (0)) (by decide) ?_
      refine x_istore hC dX1_init_241 (q := 243) rfl rfl ?_
      have hz2 : (fun _ : Nat => (0 : Int32)) = aF (aRo (aOf f)) 0 := by funext k; unfold aF; rw [if_neg (Nat.not_lt_zero k)]
      refine x_geq (g' := AX g aa a_7 a_15 a_22 [.int (nI (aI (aOf f) 0)), .int (nI (aI (aOf f) 1)), .int (nI (pk (f 2) 5) - 1), .int (nI (pk (f 3) 5) - 1), .int (nI (pk (f 4) 5) - 1), .int (nI (pk (f 5) 5) - 1), .int (nI (aI (aOf f) 6)), .int (nI (aI (aOf f) 7)), .int (nI (aI (aOf f) 8)), .ref a_7, .ref a_15, .ref a_22] (aF (aCl (aOf f)) (aI (aOf f) 0)) (aF (aGr (aOf f)) (aI (aOf f) 0)) (aF (aRo (aOf f)) 0)) (by rw [← hz2]) ?_
      refine x_loop (S := (fun x : Nat => ((3 : Nat), (15 : Nat), AX g aa a_7 a_15 a_22 [.int (nI (aI (aOf f) 0)), .int (nI (aI (aOf f) 1)), .int (nI (pk (f 2) 5) - 1), .int (nI (pk (f 3) 5) - 1), .int (nI (pk (f 4) 5) - 1), .int (nI (pk (f 5) 5) - 1), .int (nI (aI (aOf f) 6)), .int (nI (aI (aOf f) 7)), .int (nI (aI (aOf f) 8)), .ref a_7, .ref a_15, .ref a_22] (aF (aCl (aOf f)) (aI (aOf f) 0)) (aF (aGr (aOf f)) (aI (aOf f) 0)) (aF (aRo (aOf f)) x), ([some (.ref aa), some (.ref sa), some (.int (nI (pk (f 0) 13))), some (.int (nI (pk (f 1) 10))), some (.int (nI x))] : xL), ([] : List Value)))) (Inv := fun x => x ≤ aI (aOf f) 1) (μ := fun x => aI (aOf f) 1 - x) ?_ 0 (Nat.zero_le _)
      intro i hi ih
      dsimp only at hi ih ⊢
      refine x_iload hC dX1_init_243 (q := 245) rfl rfl ?_
      refine x_aloadr_n hC dX1_init_245 (q := 246) rfl rfl ?_
      refine x_get hC xf_X1_29_0 dX1_init_246 (q := 249) rfl (n := (101, 0)) rfl rfl ?_
      refine x_icmp_ge hC dX1_init_249 (q := 252) rfl (tgt := 278) rfl (fun h249 => ?_) (fun h249 => ?_)
      · have hj3 : i = aI (aOf f) 1 := by
          have := (nI_leI (by omega) (by omega)).mp (show nI (aI (aOf f) 1) ≤ nI i from h249)
          omega
        subst hj3
        exact x_vret hC hr dX1_init_278 (Nat.le_of_ble_eq_true rfl) (Nat.le_of_ble_eq_true rfl) ⟨a_7, a_15, a_22, rfl, by rw [nI_m, nI_m, nI_m, nI_m]; rfl⟩
      have hj2 : i < aI (aOf f) 1 := Nat.lt_of_not_le (fun q => h249 (show nI (aI (aOf f) 1) ≤ nI i from nI_le q (by omega)))
      refine x_aloadr_n hC dX1_init_252 (q := 253) rfl rfl ?_
      refine x_get hC xf_X1_16_0 dX1_init_253 (q := 256) rfl (n := (101, 0)) rfl rfl ?_
      refine x_iload hC dX1_init_256 (q := 258) rfl rfl ?_
      refine x_iconst hC dX1_init_258 (q := 259) rfl (v := (1)) (by decide) ?_
      refine x_aloadr_n hC dX1_init_259 (q := 260) rfl rfl ?_
      refine x_bipush hC dX1_init_260 (q := 262) rfl (v := (21)) (by decide) ?_
      refine x_iload hC dX1_init_262 (q := 264) rfl rfl ?_
      refine x_iadd hC dX1_init_264 (q := 265) rfl ?_
      refine x_bipush hC dX1_init_265 (q := 267) rfl (v := (6)) (by decide) ?_
      rw [show (21 : Int32) + nI i = nI (21 + i) from by rw [show (21 : Int32) = nI 21 from rfl, nI_add]]
      refine x_callSN hC xv_X1_19 dX1_init_267 (q := 270) rfl rfl (m_X0_pick h0 _ ((AX_ne (n_fst rfl) (n_fst rfl) (n_fst rfl) (n_fst rfl)).trans hs) (k := 21 + i) (n := 6) (by omega) (by decide) (by decide)) rfl (Nat.le_of_ble_eq_true rfl) ⟨(Nat.le_of_ble_eq_true rfl), (Nat.le_of_ble_eq_true rfl)⟩ ⟨(Nat.le_of_ble_eq_true rfl), (Nat.le_of_ble_eq_true rfl)⟩ (fun v g1 hp => ?_)
      obtain ⟨rfl, hg1⟩ := hp
      replace hg1 := hg1.symm
      subst hg1
      refine x_iadd hC dX1_init_270 (q := 271) rfl ?_
      rw [show (1 : Int32) + nI (pk (f (21 + i)) 6) = nI (aRo (aOf f) i) from by rw [show (1 : Int32) = nI 1 from rfl, nI_add]; rfl]
      refine x_iast hC dX1_init_271 (q := 272) rfl (n := (104, 0)) rfl rfl (j := i) rfl (by omega) (by decide) ?_
      rw [AX_r]
      refine x_geq (congrArg (fun t => AX g aa a_7 a_15 a_22 _ _ _ t) (aF_up (aRo (aOf f)) i)) ?_
      refine x_iinc hC dX1_init_272 (q := 275) rfl rfl (v := nI (i + 1)) (nI_1 i) ?_
      refine x_goto hC dX1_init_275 (tgt := 243) rfl ?_
      exact ih (i + 1) (by (try dsimp only); omega) (by (try dsimp only); omega)
    have hj2 : i < aI (aOf f) 0 := Nat.lt_of_not_le (fun q => h191 (show nI (aI (aOf f) 0) ≤ nI i from nI_le q (by omega)))
    refine x_aloadr_n hC dX1_init_194 (q := 195) rfl rfl ?_
    refine x_get hC xf_X1_7_0 dX1_init_195 (q := 198) rfl (n := (101, 0)) rfl rfl ?_
    refine x_iload hC dX1_init_198 (q := 200) rfl rfl ?_
    refine x_aloadr_n hC dX1_init_200 (q := 201) rfl rfl ?_
    refine x_bipush hC dX1_init_201 (q := 203) rfl (v := (9)) (by decide) ?_
    refine x_iconst hC dX1_init_203 (q := 204) rfl (v := (2)) (by decide) ?_
    refine x_iload hC dX1_init_204 (q := 206) rfl rfl ?_
    refine x_imul hC dX1_init_206 (q := 207) rfl ?_
    refine x_iadd hC dX1_init_207 (q := 208) rfl ?_
    refine x_bipush hC dX1_init_208 (q := 210) rfl (v := (80)) (by decide) ?_
    rw [show (9 : Int32) + 2 * nI i = nI (9 + 2 * i) from by rw [show (2 : Int32) = nI 2 from rfl, nI_mu, show (9 : Int32) = nI 9 from rfl, nI_add]]
    refine x_callSN hC xv_X1_19 dX1_init_210 (q := 213) rfl rfl (m_X0_pick h0 _ ((AX_ne (n_fst rfl) (n_fst rfl) (n_fst rfl) (n_fst rfl)).trans hs) (k := 9 + 2 * i) (n := 80) (by omega) (by decide) (by decide)) rfl (Nat.le_of_ble_eq_true rfl) ⟨(Nat.le_of_ble_eq_true rfl), (Nat.le_of_ble_eq_true rfl)⟩ ⟨(Nat.le_of_ble_eq_true rfl), (Nat.le_of_ble_eq_true rfl)⟩ (fun v g1 hp => ?_)
    obtain ⟨rfl, hg1⟩ := hp
    replace hg1 := hg1.symm
    subst hg1
    refine x_iast hC dX1_init_213 (q := 214) rfl (n := (102, 0)) rfl rfl (j := i) rfl (by omega) (by decide) ?_
    rw [AX_c]
    refine x_geq (congrArg (fun t => AX g aa a_7 a_15 a_22 _ t _ _) (aF_up (aCl (aOf f)) i)) ?_
    refine x_aloadr_n hC dX1_init_214 (q := 215) rfl rfl ?_
    refine x_get hC xf_X1_13_0 dX1_init_215 (q := 218) rfl (n := (101, 0)) rfl rfl ?_
    refine x_iload hC dX1_init_218 (q := 220) rfl rfl ?_
    refine x_aloadr_n hC dX1_init_220 (q := 221) rfl rfl ?_
    refine x_bipush hC dX1_init_221 (q := 223) rfl (v := (10)) (by decide) ?_
    refine x_iconst hC dX1_init_223 (q := 224) rfl (v := (2)) (by decide) ?_
    refine x_iload hC dX1_init_224 (q := 226) rfl rfl ?_
    refine x_imul hC dX1_init_226 (q := 227) rfl ?_
    refine x_iadd hC dX1_init_227 (q := 228) rfl ?_
    refine x_bipush hC dX1_init_228 (q := 230) rfl (v := (10)) (by decide) ?_
    rw [show (10 : Int32) + 2 * nI i = nI (10 + 2 * i) from by rw [show (2 : Int32) = nI 2 from rfl, nI_mu, show (10 : Int32) = nI 10 from rfl, nI_add]]
    refine x_callSN hC xv_X1_19 dX1_init_230 (q := 233) rfl rfl (m_X0_pick h0 _ ((AX_ne (n_fst rfl) (n_fst rfl) (n_fst rfl) (n_fst rfl)).trans hs) (k := 10 + 2 * i) (n := 10) (by omega) (by decide) (by decide)) rfl (Nat.le_of_ble_eq_true rfl) ⟨(Nat.le_of_ble_eq_true rfl), (Nat.le_of_ble_eq_true rfl)⟩ ⟨(Nat.le_of_ble_eq_true rfl), (Nat.le_of_ble_eq_true rfl)⟩ (fun v g1 hp => ?_)
    obtain ⟨rfl, hg1⟩ := hp
    replace hg1 := hg1.symm
    subst hg1
    refine x_iast hC dX1_init_233 (q := 234) rfl (n := (103, 0)) rfl rfl (j := i) rfl (by omega) (by decide) ?_
    rw [AX_g]
    refine x_geq (congrArg (fun t => AX g aa a_7 a_15 a_22 _ _ t _) (aF_up (aGr (aOf f)) i)) ?_
    refine x_iinc hC dX1_init_234 (q := 237) rfl rfl (v := nI (i + 1)) (nI_1 i) ?_
    refine x_goto hC dX1_init_237 (tgt := 185) rfl ?_
    exact ih (i + 1) (by (try dsimp only); omega) (by (try dsimp only); omega)
  refine x_iconst hC dX1_init_48 (q := 49) rfl (v := (0)) (by decide) ?_
  refine x_goto hC dX1_init_49 (tgt := 58) rfl ?_
  refine x_putF hC hnm (n := (101, 0)) xff_X1_25_0 xd_0 rfl dX1_init_58 (q := 61) rfl rfl rfl rfl rfl ?_
  refine x_geq (g' := (AX g aa a_7 a_15 a_22 [.int (nI (aI (aOf f) 0)), .int 0, .int 0, .int 0, .int 0, .int 0, .int 0, .int 0, .int 0, .ref a_7, .ref a_15, .ref a_22] (fun _ => 0) (fun _ => 0) (fun _ => 0))) (AX_p _ _ _ _ _ _ _ _ _ (by first | (rw [show nI (aI (aOf f) 0) = _ from aOf_0t (f := f) (n := 13) (j := 0) (m := 6) (by decide) (by assumption)]; rfl) | (rw [show nI (aI (aOf f) 0) = _ from aOf_0f (f := f) (n := 13) (j := 0) (m := 6) (by decide) (by assumption)]; rfl))) ?_
  refine x_aloadr_n hC dX1_init_61 (q := 62) rfl rfl ?_
  refine x_iload_n hC dX1_init_62 (q := 63) rfl rfl ?_
  refine x_if_ne hC dX1_init_63 (q := 66) rfl (tgt := 70) rfl (fun h63 => ?_) (fun h63 => ?_)
  · refine x_iconst hC dX1_init_70 (q := 71) rfl (v := (1)) (by decide) ?_
    refine x_iload_n hC dX1_init_71 (q := 72) rfl rfl ?_
    refine x_iconst hC dX1_init_72 (q := 73) rfl (v := (3)) (by decide) ?_
    refine x_irem hC dX1_init_73 (q := 74) rfl (by decide) ?_
    refine x_iadd hC dX1_init_74 (q := 75) rfl ?_
    refine x_putF hC hnm (n := (101, 0)) xff_X1_29_0 xd_0 rfl dX1_init_75 (q := 78) rfl rfl rfl rfl rfl ?_
    refine x_geq (g' := (AX g aa a_7 a_15 a_22 [.int (nI (aI (aOf f) 0)), .int (nI (aI (aOf f) 1)), .int 0, .int 0, .int 0, .int 0, .int 0, .int 0, .int 0, .ref a_7, .ref a_15, .ref a_22] (fun _ => 0) (fun _ => 0) (fun _ => 0))) (AX_p _ _ _ _ _ _ _ _ _ (by first | (rw [show nI (aI (aOf f) 1) = _ from aOf_0t (f := f) (n := 10) (j := 1) (m := 3) (by decide) (by assumption)]; rfl) | (rw [show nI (aI (aOf f) 1) = _ from aOf_0f (f := f) (n := 10) (j := 1) (m := 3) (by decide) (by assumption)]; rfl))) ?_
    refine x_aloadr_n hC dX1_init_78 (q := 79) rfl rfl ?_
    refine x_aloadr_n hC dX1_init_79 (q := 80) rfl rfl ?_
    refine x_iconst hC dX1_init_80 (q := 81) rfl (v := (2)) (by decide) ?_
    refine x_gets hC (hS.2 2 (by decide)).1 (Or.inr ⟨_, q1117⟩) dX1_init_81 (q := 84) rfl ?_
    refine x_alen hC dX1_init_84 (q := 85) rfl (n := (1003, 2)) ((AX_ne (n_fst rfl) (n_fst rfl) (n_fst rfl) (n_fst rfl)).trans (hK.a 2 rfl)) ?_
    refine x_iconst hC dX1_init_85 (q := 86) rfl (v := (1)) (by decide) ?_
    refine x_iadd hC dX1_init_86 (q := 87) rfl ?_
    refine x_callSN hC xv_X1_19 dX1_init_87 (q := 90) rfl rfl (m_X0_pick h0 _ ((AX_ne (n_fst rfl) (n_fst rfl) (n_fst rfl) (n_fst rfl)).trans hs) (k := 2) (n := 5) (by omega) (by decide) (by decide)) rfl (Nat.le_of_ble_eq_true rfl) ⟨(Nat.le_of_ble_eq_true rfl), (Nat.le_of_ble_eq_true rfl)⟩ ⟨(Nat.le_of_ble_eq_true rfl), (Nat.le_of_ble_eq_true rfl)⟩ (fun v g1 hp => ?_)
    obtain ⟨rfl, hg1⟩ := hp
    replace hg1 := hg1.symm
    subst hg1
    refine x_iconst hC dX1_init_90 (q := 91) rfl (v := (1)) (by decide) ?_
    refine x_isub hC dX1_init_91 (q := 92) rfl ?_
    refine x_putF hC hnm (n := (101, 0)) xff_X1_36_0 xd_0 rfl dX1_init_92 (q := 95) rfl rfl rfl rfl rfl ?_
    refine x_geq (g' := (AX g aa a_7 a_15 a_22 [.int (nI (aI (aOf f) 0)), .int (nI (aI (aOf f) 1)), .int (nI (pk (f 2) 5) - 1), .int 0, .int 0, .int 0, .int 0, .int 0, .int 0, .ref a_7, .ref a_15, .ref a_22] (fun _ => 0) (fun _ => 0) (fun _ => 0))) (AX_p _ _ _ _ _ _ _ _ _ rfl) ?_
    refine x_aloadr_n hC dX1_init_95 (q := 96) rfl rfl ?_
    refine x_aloadr_n hC dX1_init_96 (q := 97) rfl rfl ?_
    refine x_iconst hC dX1_init_97 (q := 98) rfl (v := (3)) (by decide) ?_
    refine x_gets hC (hS.2 3 (by decide)).1 (Or.inr ⟨_, q1119⟩) dX1_init_98 (q := 101) rfl ?_
    refine x_alen hC dX1_init_101 (q := 102) rfl (n := (1003, 3)) ((AX_ne (n_fst rfl) (n_fst rfl) (n_fst rfl) (n_fst rfl)).trans (hK.a 3 rfl)) ?_
    refine x_iconst hC dX1_init_102 (q := 103) rfl (v := (1)) (by decide) ?_
    refine x_iadd hC dX1_init_103 (q := 104) rfl ?_
    refine x_callSN hC xv_X1_19 dX1_init_104 (q := 107) rfl rfl (m_X0_pick h0 _ ((AX_ne (n_fst rfl) (n_fst rfl) (n_fst rfl) (n_fst rfl)).trans hs) (k := 3) (n := 5) (by omega) (by decide) (by decide)) rfl (Nat.le_of_ble_eq_true rfl) ⟨(Nat.le_of_ble_eq_true rfl), (Nat.le_of_ble_eq_true rfl)⟩ ⟨(Nat.le_of_ble_eq_true rfl), (Nat.le_of_ble_eq_true rfl)⟩ (fun v g1 hp => ?_)
    obtain ⟨rfl, hg1⟩ := hp
    replace hg1 := hg1.symm
    subst hg1
    refine x_iconst hC dX1_init_107 (q := 108) rfl (v := (1)) (by decide) ?_
    refine x_isub hC dX1_init_108 (q := 109) rfl ?_
    refine x_putF hC hnm (n := (101, 0)) xff_X1_42_0 xd_0 rfl dX1_init_109 (q := 112) rfl rfl rfl rfl rfl ?_
    refine x_geq (g' := (AX g aa a_7 a_15 a_22 [.int (nI (aI (aOf f) 0)), .int (nI (aI (aOf f) 1)), .int (nI (pk (f 2) 5) - 1), .int (nI (pk (f 3) 5) - 1), .int 0, .int 0, .int 0, .int 0, .int 0, .ref a_7, .ref a_15, .ref a_22] (fun _ => 0) (fun _ => 0) (fun _ => 0))) (AX_p _ _ _ _ _ _ _ _ _ rfl) ?_
    refine x_aloadr_n hC dX1_init_112 (q := 113) rfl rfl ?_
    refine x_aloadr_n hC dX1_init_113 (q := 114) rfl rfl ?_
    refine x_iconst hC dX1_init_114 (q := 115) rfl (v := (4)) (by decide) ?_
    refine x_gets hC (hS.2 4 (by decide)).1 (Or.inr ⟨_, q1121⟩) dX1_init_115 (q := 118) rfl ?_
    refine x_alen hC dX1_init_118 (q := 119) rfl (n := (1003, 4)) ((AX_ne (n_fst rfl) (n_fst rfl) (n_fst rfl) (n_fst rfl)).trans (hK.a 4 rfl)) ?_
    refine x_iconst hC dX1_init_119 (q := 120) rfl (v := (1)) (by decide) ?_
    refine x_iadd hC dX1_init_120 (q := 121) rfl ?_
    refine x_callSN hC xv_X1_19 dX1_init_121 (q := 124) rfl rfl (m_X0_pick h0 _ ((AX_ne (n_fst rfl) (n_fst rfl) (n_fst rfl) (n_fst rfl)).trans hs) (k := 4) (n := 5) (by omega) (by decide) (by decide)) rfl (Nat.le_of_ble_eq_true rfl) ⟨(Nat.le_of_ble_eq_true rfl), (Nat.le_of_ble_eq_true rfl)⟩ ⟨(Nat.le_of_ble_eq_true rfl), (Nat.le_of_ble_eq_true rfl)⟩ (fun v g1 hp => ?_)
    obtain ⟨rfl, hg1⟩ := hp
    replace hg1 := hg1.symm
    subst hg1
    refine x_iconst hC dX1_init_124 (q := 125) rfl (v := (1)) (by decide) ?_
    refine x_isub hC dX1_init_125 (q := 126) rfl ?_
    refine x_putF hC hnm (n := (101, 0)) xff_X1_48_0 xd_0 rfl dX1_init_126 (q := 129) rfl rfl rfl rfl rfl ?_
    refine x_geq (g' := (AX g aa a_7 a_15 a_22 [.int (nI (aI (aOf f) 0)), .int (nI (aI (aOf f) 1)), .int (nI (pk (f 2) 5) - 1), .int (nI (pk (f 3) 5) - 1), .int (nI (pk (f 4) 5) - 1), .int 0, .int 0, .int 0, .int 0, .ref a_7, .ref a_15, .ref a_22] (fun _ => 0) (fun _ => 0) (fun _ => 0))) (AX_p _ _ _ _ _ _ _ _ _ rfl) ?_
    refine x_aloadr_n hC dX1_init_129 (q := 130) rfl rfl ?_
    refine x_aloadr_n hC dX1_init_130 (q := 131) rfl rfl ?_
    refine x_iconst hC dX1_init_131 (q := 132) rfl (v := (5)) (by decide) ?_
    refine x_gets hC (hS.2 5 (by decide)).1 (Or.inr ⟨_, q1123⟩) dX1_init_132 (q := 135) rfl ?_
    refine x_alen hC dX1_init_135 (q := 136) rfl (n := (1003, 5)) ((AX_ne (n_fst rfl) (n_fst rfl) (n_fst rfl) (n_fst rfl)).trans (hK.a 5 rfl)) ?_
    refine x_iconst hC dX1_init_136 (q := 137) rfl (v := (1)) (by decide) ?_
    refine x_iadd hC dX1_init_137 (q := 138) rfl ?_
    refine x_callSN hC xv_X1_19 dX1_init_138 (q := 141) rfl rfl (m_X0_pick h0 _ ((AX_ne (n_fst rfl) (n_fst rfl) (n_fst rfl) (n_fst rfl)).trans hs) (k := 5) (n := 5) (by omega) (by decide) (by decide)) rfl (Nat.le_of_ble_eq_true rfl) ⟨(Nat.le_of_ble_eq_true rfl), (Nat.le_of_ble_eq_true rfl)⟩ ⟨(Nat.le_of_ble_eq_true rfl), (Nat.le_of_ble_eq_true rfl)⟩ (fun v g1 hp => ?_)
    obtain ⟨rfl, hg1⟩ := hp
    replace hg1 := hg1.symm
    subst hg1
    refine x_iconst hC dX1_init_141 (q := 142) rfl (v := (1)) (by decide) ?_
    refine x_isub hC dX1_init_142 (q := 143) rfl ?_
    refine x_putF hC hnm (n := (101, 0)) xff_X1_54_0 xd_0 rfl dX1_init_143 (q := 146) rfl rfl rfl rfl rfl ?_
    refine x_geq (g' := (AX g aa a_7 a_15 a_22 [.int (nI (aI (aOf f) 0)), .int (nI (aI (aOf f) 1)), .int (nI (pk (f 2) 5) - 1), .int (nI (pk (f 3) 5) - 1), .int (nI (pk (f 4) 5) - 1), .int (nI (pk (f 5) 5) - 1), .int 0, .int 0, .int 0, .ref a_7, .ref a_15, .ref a_22] (fun _ => 0) (fun _ => 0) (fun _ => 0))) (AX_p _ _ _ _ _ _ _ _ _ rfl) ?_
    refine x_aloadr_n hC dX1_init_146 (q := 147) rfl rfl ?_
    refine x_aloadr_n hC dX1_init_147 (q := 148) rfl rfl ?_
    refine x_bipush hC dX1_init_148 (q := 150) rfl (v := (6)) (by decide) ?_
    refine x_bipush hC dX1_init_150 (q := 152) rfl (v := (120)) (by decide) ?_
    refine x_callSN hC xv_X1_19 dX1_init_152 (q := 155) rfl rfl (m_X0_pick h0 _ ((AX_ne (n_fst rfl) (n_fst rfl) (n_fst rfl) (n_fst rfl)).trans hs) (k := 6) (n := 120) (by omega) (by decide) (by decide)) rfl (Nat.le_of_ble_eq_true rfl) ⟨(Nat.le_of_ble_eq_true rfl), (Nat.le_of_ble_eq_true rfl)⟩ ⟨(Nat.le_of_ble_eq_true rfl), (Nat.le_of_ble_eq_true rfl)⟩ (fun v g1 hp => ?_)
    obtain ⟨rfl, hg1⟩ := hp
    replace hg1 := hg1.symm
    subst hg1
    refine x_putF hC hnm (n := (101, 0)) xff_X1_57_0 xd_0 rfl dX1_init_155 (q := 158) rfl rfl rfl rfl rfl ?_
    refine x_geq (g' := (AX g aa a_7 a_15 a_22 [.int (nI (aI (aOf f) 0)), .int (nI (aI (aOf f) 1)), .int (nI (pk (f 2) 5) - 1), .int (nI (pk (f 3) 5) - 1), .int (nI (pk (f 4) 5) - 1), .int (nI (pk (f 5) 5) - 1), .int (nI (aI (aOf f) 6)), .int 0, .int 0, .ref a_7, .ref a_15, .ref a_22] (fun _ => 0) (fun _ => 0) (fun _ => 0))) (AX_p _ _ _ _ _ _ _ _ _ rfl) ?_
    refine x_aloadr_n hC dX1_init_158 (q := 159) rfl rfl ?_
    refine x_aloadr_n hC dX1_init_159 (q := 160) rfl rfl ?_
    refine x_bipush hC dX1_init_160 (q := 162) rfl (v := (7)) (by decide) ?_
    refine x_bipush hC dX1_init_162 (q := 164) rfl (v := (30)) (by decide) ?_
    refine x_callSN hC xv_X1_19 dX1_init_164 (q := 167) rfl rfl (m_X0_pick h0 _ ((AX_ne (n_fst rfl) (n_fst rfl) (n_fst rfl) (n_fst rfl)).trans hs) (k := 7) (n := 30) (by omega) (by decide) (by decide)) rfl (Nat.le_of_ble_eq_true rfl) ⟨(Nat.le_of_ble_eq_true rfl), (Nat.le_of_ble_eq_true rfl)⟩ ⟨(Nat.le_of_ble_eq_true rfl), (Nat.le_of_ble_eq_true rfl)⟩ (fun v g1 hp => ?_)
    obtain ⟨rfl, hg1⟩ := hp
    replace hg1 := hg1.symm
    subst hg1
    refine x_putF hC hnm (n := (101, 0)) xff_X1_60_0 xd_0 rfl dX1_init_167 (q := 170) rfl rfl rfl rfl rfl ?_
    refine x_geq (g' := (AX g aa a_7 a_15 a_22 [.int (nI (aI (aOf f) 0)), .int (nI (aI (aOf f) 1)), .int (nI (pk (f 2) 5) - 1), .int (nI (pk (f 3) 5) - 1), .int (nI (pk (f 4) 5) - 1), .int (nI (pk (f 5) 5) - 1), .int (nI (aI (aOf f) 6)), .int (nI (aI (aOf f) 7)), .int 0, .ref a_7, .ref a_15, .ref a_22] (fun _ => 0) (fun _ => 0) (fun _ => 0))) (AX_p _ _ _ _ _ _ _ _ _ rfl) ?_
    refine x_aloadr_n hC dX1_init_170 (q := 171) rfl rfl ?_
    refine x_aloadr_n hC dX1_init_171 (q := 172) rfl rfl ?_
    refine x_bipush hC dX1_init_172 (q := 174) rfl (v := (8)) (by decide) ?_
    refine x_bipush hC dX1_init_174 (q := 176) rfl (v := (101)) (by decide) ?_
    refine x_callSN hC xv_X1_19 dX1_init_176 (q := 179) rfl rfl (m_X0_pick h0 _ ((AX_ne (n_fst rfl) (n_fst rfl) (n_fst rfl) (n_fst rfl)).trans hs) (k := 8) (n := 101) (by omega) (by decide) (by decide)) rfl (Nat.le_of_ble_eq_true rfl) ⟨(Nat.le_of_ble_eq_true rfl), (Nat.le_of_ble_eq_true rfl)⟩ ⟨(Nat.le_of_ble_eq_true rfl), (Nat.le_of_ble_eq_true rfl)⟩ (fun v g1 hp => ?_)
    obtain ⟨rfl, hg1⟩ := hp
    replace hg1 := hg1.symm
    subst hg1
    refine x_putF hC hnm (n := (101, 0)) xff_X1_63_0 xd_0 rfl dX1_init_179 (q := 182) rfl rfl rfl rfl rfl ?_
    refine x_geq (g' := (AX g aa a_7 a_15 a_22 [.int (nI (aI (aOf f) 0)), .int (nI (aI (aOf f) 1)), .int (nI (pk (f 2) 5) - 1), .int (nI (pk (f 3) 5) - 1), .int (nI (pk (f 4) 5) - 1), .int (nI (pk (f 5) 5) - 1), .int (nI (aI (aOf f) 6)), .int (nI (aI (aOf f) 7)), .int (nI (aI (aOf f) 8)), .ref a_7, .ref a_15, .ref a_22] (fun _ => 0) (fun _ => 0) (fun _ => 0))) (AX_p _ _ _ _ _ _ _ _ _ rfl) ?_
    refine x_iconst hC dX1_init_182 (q := 183) rfl (v := (0)) (by decide) ?_
    refine x_istore hC dX1_init_183 (q := 185) rfl rfl ?_
    have hz0 : (fun _ : Nat => (0 : Int32)) = aF (aCl (aOf f)) 0 := by funext k; unfold aF; rw [if_neg (Nat.not_lt_zero k)]
    have hz1 : (fun _ : Nat => (0 : Int32)) = aF (aGr (aOf f)) 0 := by funext k; unfold aF; rw [if_neg (Nat.not_lt_zero k)]
    refine x_geq (g' := AX g aa a_7 a_15 a_22 [.int (nI (aI (aOf f) 0)), .int (nI (aI (aOf f) 1)), .int (nI (pk (f 2) 5) - 1), .int (nI (pk (f 3) 5) - 1), .int (nI (pk (f 4) 5) - 1), .int (nI (pk (f 5) 5) - 1), .int (nI (aI (aOf f) 6)), .int (nI (aI (aOf f) 7)), .int (nI (aI (aOf f) 8)), .ref a_7, .ref a_15, .ref a_22] (aF (aCl (aOf f)) 0) (aF (aGr (aOf f)) 0) (fun _ => 0)) (by rw [← hz0, ← hz1]) ?_
    refine x_loop (S := (fun x : Nat => ((3 : Nat), (15 : Nat), AX g aa a_7 a_15 a_22 [.int (nI (aI (aOf f) 0)), .int (nI (aI (aOf f) 1)), .int (nI (pk (f 2) 5) - 1), .int (nI (pk (f 3) 5) - 1), .int (nI (pk (f 4) 5) - 1), .int (nI (pk (f 5) 5) - 1), .int (nI (aI (aOf f) 6)), .int (nI (aI (aOf f) 7)), .int (nI (aI (aOf f) 8)), .ref a_7, .ref a_15, .ref a_22] (aF (aCl (aOf f)) x) (aF (aGr (aOf f)) x) (fun _ => 0), ([some (.ref aa), some (.ref sa), some (.int (nI (pk (f 0) 13))), some (.int (nI (pk (f 1) 10))), some (.int (nI x))] : xL), ([] : List Value)))) (Inv := fun x => x ≤ aI (aOf f) 0) (μ := fun x => aI (aOf f) 0 - x) ?_ 0 (Nat.zero_le _)
    intro i hi ih
    dsimp only at hi ih ⊢
    refine x_iload hC dX1_init_185 (q := 187) rfl rfl ?_
    refine x_aloadr_n hC dX1_init_187 (q := 188) rfl rfl ?_
    refine x_get hC xf_X1_25_0 dX1_init_188 (q := 191) rfl (n := (101, 0)) rfl rfl ?_
    refine x_icmp_ge hC dX1_init_191 (q := 194) rfl (tgt := 240) rfl (fun h191 => ?_) (fun h191 => ?_)
    · have hj3 : i = aI (aOf f) 0 := by
        have := (nI_leI (by omega) (by omega)).mp (show nI (aI (aOf f) 0) ≤ nI i from h191)
        omega
      subst hj3
      refine x_iconst hC dX1_init_240 (q := 241) rfl (v := (0)) (by decide) ?_
      refine x_istore hC dX1_init_241 (q := 243) rfl rfl ?_
      have hz2 : (fun _ : Nat => (0 : Int32)) = aF (aRo (aOf f)) 0 := by funext k; unfold aF; rw [if_neg (Nat.not_lt_zero k)]
      refine x_geq (g' := AX g aa a_7 a_15 a_22 [.int (nI (aI (aOf f) 0)), .int (nI (aI (aOf f) 1)), .int (nI (pk (f 2) 5) - 1), .int (nI (pk (f 3) 5) - 1), .int (nI (pk (f 4) 5) - 1), .int (nI (pk (f 5) 5) - 1), .int (nI (aI (aOf f) 6)), .int (nI (aI (aOf f) 7)), .int (nI (aI (aOf f) 8)), .ref a_7, .ref a_15, .ref a_22] (aF (aCl (aOf f)) (aI (aOf f) 0)) (aF (aGr (aOf f)) (aI (aOf f) 0)) (aF (aRo (aOf f)) 0)) (by rw [← hz2]) ?_
      refine x_loop (S := (fun x : Nat => ((3 : Nat), (15 : Nat), AX g aa a_7 a_15 a_22 [.int (nI (aI (aOf f) 0)), .int (nI (aI (aOf f) 1)), .int (nI (pk (f 2) 5) - 1), .int (nI (pk (f 3) 5) - 1), .int (nI (pk (f 4) 5) - 1), .int (nI (pk (f 5) 5) - 1), .int (nI (aI (aOf f) 6)), .int (nI (aI (aOf f) 7)), .int (nI (aI (aOf f) 8)), .ref a_7, .ref a_15, .ref a_22] (aF (aCl (aOf f)) (aI (aOf f) 0)) (aF (aGr (aOf f)) (aI (aOf f) 0)) (aF (aRo (aOf f)) x), ([some (.ref aa), some (.ref sa), some (.int (nI (pk (f 0) 13))), some (.int (nI (pk (f 1) 10))), some (.int (nI x))] : xL), ([] : List Value)))) (Inv := fun x => x ≤ aI (aOf f) 1) (μ := fun x => aI (aOf f) 1 - x) ?_ 0 (Nat.zero_le _)
      intro i hi ih
      dsimp only at hi ih ⊢
      refine x_iload hC dX1_init_243 (q := 245) rfl rfl ?_
      refine x_aloadr_n hC dX1_init_245 (q := 246) rfl rfl ?_
      refine x_get hC xf_X1_29_0 dX1_init_246 (q := 249) rfl (n := (101, 0)) rfl rfl ?_
      refine x_icmp_ge hC dX1_init_249 (q := 252) rfl (tgt := 278) rfl (fun h249 => ?_) (fun h249 => ?_)
      · have hj3 : i = aI (aOf f) 1 := by
          have := (nI_leI (by omega) (by omega)).mp (show nI (aI (aOf f) 1) ≤ nI i from h249)
          omega
        subst hj3
        exact x_vret hC hr dX1_init_278 (Nat.le_of_ble_eq_true rfl) (Nat.le_of_ble_eq_true rfl) ⟨a_7, a_15, a_22, rfl, by rw [nI_m, nI_m, nI_m, nI_m]; rfl⟩
      have hj2 : i < aI (aOf f) 1 := Nat.lt_of_not_le (fun q => h249 (show nI (aI (aOf f) 1) ≤ nI i from nI_le q (by omega)))
      refine x_aloadr_n hC dX1_init_252 (q := 253) rfl rfl ?_
      refine x_get hC xf_X1_16_0 dX1_init_253 (q := 256) rfl (n := (101, 0)) rfl rfl ?_
      refine x_iload hC dX1_init_256 (q := 258) rfl rfl ?_
      refine x_iconst hC dX1_init_258 (q := 259) rfl (v := (1)) (by decide) ?_
      refine x_aloadr_n hC dX1_init_259 (q := 260) rfl rfl ?_
      refine x_bipush hC dX1_init_260 (q := 262) rfl (v := (21)) (by decide) ?_
      refine x_iload hC dX1_init_262 (q := 264) rfl rfl ?_
      refine x_iadd hC dX1_init_264 (q := 265) rfl ?_
      refine x_bipush hC dX1_init_265 (q := 267) rfl (v := (6)) (by decide) ?_
      rw [show (21 : Int32) + nI i = nI (21 + i) from by rw [show (21 : Int32) = nI 21 from rfl, nI_add]]
      refine x_callSN hC xv_X1_19 dX1_init_267 (q := 270) rfl rfl (m_X0_pick h0 _ ((AX_ne (n_fst rfl) (n_fst rfl) (n_fst rfl) (n_fst rfl)).trans hs) (k := 21 + i) (n := 6) (by omega) (by decide) (by decide)) rfl (Nat.le_of_ble_eq_true rfl) ⟨(Nat.le_of_ble_eq_true rfl), (Nat.le_of_ble_eq_true rfl)⟩ ⟨(Nat.le_of_ble_eq_true rfl), (Nat.le_of_ble_eq_true rfl)⟩ (fun v g1 hp => ?_)
      obtain ⟨rfl, hg1⟩ := hp
      replace hg1 := hg1.symm
      subst hg1
      refine x_iadd hC dX1_init_270 (q := 271) rfl ?_
      rw [show (1 : Int32) + nI (pk (f (21 + i)) 6) = nI (aRo (aOf f) i) from by rw [show (1 : Int32) = nI 1 from rfl, nI_add]; rfl]
      refine x_iast hC dX1_init_271 (q := 272) rfl (n := (104, 0)) rfl rfl (j := i) rfl (by omega) (by decide) ?_
      rw [AX_r]
      refine x_geq (congrArg (fun t => AX g aa a_7 a_15 a_22 _ _ _ t) (aF_up (aRo (aOf f)) i)) ?_
      refine x_iinc hC dX1_init_272 (q := 275) rfl rfl (v := nI (i + 1)) (nI_1 i) ?_
      refine x_goto hC dX1_init_275 (tgt := 243) rfl ?_
      exact ih (i + 1) (by (try dsimp only); omega) (by (try dsimp only); omega)
    have hj2 : i < aI (aOf f) 0 := Nat.lt_of_not_le (fun q => h191 (show nI (aI (aOf f) 0) ≤ nI i from nI_le q (by omega)))
    refine x_aloadr_n hC dX1_init_194 (q := 195) rfl rfl ?_
    refine x_get hC xf_X1_7_0 dX1_init_195 (q := 198) rfl (n := (101, 0)) rfl rfl ?_
    refine x_iload hC dX1_init_198 (q := 200) rfl rfl ?_
    refine x_aloadr_n hC dX1_init_200 (q := 201) rfl rfl ?_
    refine x_bipush hC dX1_init_201 (q := 203) rfl (v := (9)) (by decide) ?_
    refine x_iconst hC dX1_init_203 (q := 204) rfl (v := (2)) (by decide) ?_
    refine x_iload hC dX1_init_204 (q := 206) rfl rfl ?_
    refine x_imul hC dX1_init_206 (q := 207) rfl ?_
    refine x_iadd hC dX1_init_207 (q := 208) rfl ?_
    refine x_bipush hC dX1_init_208 (q := 210) rfl (v := (80)) (by decide) ?_
    rw [show (9 : Int32) + 2 * nI i = nI (9 + 2 * i) from by rw [show (2 : Int32) = nI 2 from rfl, nI_mu, show (9 : Int32) = nI 9 from rfl, nI_add]]
    refine x_callSN hC xv_X1_19 dX1_init_210 (q := 213) rfl rfl (m_X0_pick h0 _ ((AX_ne (n_fst rfl) (n_fst rfl) (n_fst rfl) (n_fst rfl)).trans hs) (k := 9 + 2 * i) (n := 80) (by omega) (by decide) (by decide)) rfl (Nat.le_of_ble_eq_true rfl) ⟨(Nat.le_of_ble_eq_true rfl), (Nat.le_of_ble_eq_true rfl)⟩ ⟨(Nat.le_of_ble_eq_true rfl), (Nat.le_of_ble_eq_true rfl)⟩ (fun v g1 hp => ?_)
    obtain ⟨rfl, hg1⟩ := hp
    replace hg1 := hg1.symm
    subst hg1
    refine x_iast hC dX1_init_213 (q := 214) rfl (n := (102, 0)) rfl rfl (j := i) rfl (by omega) (by decide) ?_
    rw [AX_c]
    refine x_geq (congrArg (fun t => AX g aa a_7 a_15 a_22 _ t _ _) (aF_up (aCl (aOf f)) i)) ?_
    refine x_aloadr_n hC dX1_init_214 (q := 215) rfl rfl ?_
    refine x_get hC xf_X1_13_0 dX1_init_215 (q := 218) rfl (n := (101, 0)) rfl rfl ?_
    refine x_iload hC dX1_init_218 (q := 220) rfl rfl ?_
    refine x_aloadr_n hC dX1_init_220 (q := 221) rfl rfl ?_
    refine x_bipush hC dX1_init_221 (q := 223) rfl (v := (10)) (by decide) ?_
    refine x_iconst hC dX1_init_223 (q := 224) rfl (v := (2)) (by decide) ?_
    refine x_iload hC dX1_init_224 (q := 226) rfl rfl ?_
    refine x_imul hC dX1_init_226 (q := 227) rfl ?_
    refine x_iadd hC dX1_init_227 (q := 228) rfl ?_
    refine x_bipush hC dX1_init_228 (q := 230) rfl (v := (10)) (by decide) ?_
    rw [show (10 : Int32) + 2 * nI i = nI (10 + 2 * i) from by rw [show (2 : Int32) = nI 2 from rfl, nI_mu, show (10 : Int32) = nI 10 from rfl, nI_add]]
    refine x_callSN hC xv_X1_19 dX1_init_230 (q := 233) rfl rfl (m_X0_pick h0 _ ((AX_ne (n_fst rfl) (n_fst rfl) (n_fst rfl) (n_fst rfl)).trans hs) (k := 10 + 2 * i) (n := 10) (by omega) (by decide) (by decide)) rfl (Nat.le_of_ble_eq_true rfl) ⟨(Nat.le_of_ble_eq_true rfl), (Nat.le_of_ble_eq_true rfl)⟩ ⟨(Nat.le_of_ble_eq_true rfl), (Nat.le_of_ble_eq_true rfl)⟩ (fun v g1 hp => ?_)
    obtain ⟨rfl, hg1⟩ := hp
    replace hg1 := hg1.symm
    subst hg1
    refine x_iast hC dX1_init_233 (q := 234) rfl (n := (103, 0)) rfl rfl (j := i) rfl (by omega) (by decide) ?_
    rw [AX_g]
    refine x_geq (congrArg (fun t => AX g aa a_7 a_15 a_22 _ _ t _) (aF_up (aGr (aOf f)) i)) ?_
    refine x_iinc hC dX1_init_234 (q := 237) rfl rfl (v := nI (i + 1)) (nI_1 i) ?_
    refine x_goto hC dX1_init_237 (tgt := 185) rfl ?_
    exact ih (i + 1) (by (try dsimp only); omega) (by (try dsimp only); omega)
  refine x_iconst hC dX1_init_66 (q := 67) rfl (v := (0)) (by decide) ?_
  refine x_goto hC dX1_init_67 (tgt := 75) rfl ?_
  refine x_putF hC hnm (n := (101, 0)) xff_X1_29_0 xd_0 rfl dX1_init_75 (q := 78) rfl rfl rfl rfl rfl ?_
  refine x_geq (g' := (AX g aa a_7 a_15 a_22 [.int (nI (aI (aOf f) 0)), .int (nI (aI (aOf f) 1)), .int 0, .int 0, .int 0, .int 0, .int 0, .int 0, .int 0, .ref a_7, .ref a_15, .ref a_22] (fun _ => 0) (fun _ => 0) (fun _ => 0))) (AX_p _ _ _ _ _ _ _ _ _ (by first | (rw [show nI (aI (aOf f) 1) = _ from aOf_0t (f := f) (n := 10) (j := 1) (m := 3) (by decide) (by assumption)]; rfl) | (rw [show nI (aI (aOf f) 1) = _ from aOf_0f (f := f) (n := 10) (j := 1) (m := 3) (by decide) (by assumption)]; rfl))) ?_
  refine x_aloadr_n hC dX1_init_78 (q := 79) rfl rfl ?_
  refine x_aloadr_n hC dX1_init_79 (q := 80) rfl rfl ?_
  refine x_iconst hC dX1_init_80 (q := 81) rfl (v := (2)) (by decide) ?_
  refine x_gets hC (hS.2 2 (by decide)).1 (Or.inr ⟨_, q1117⟩) dX1_init_81 (q := 84) rfl ?_
  refine x_alen hC dX1_init_84 (q := 85) rfl (n := (1003, 2)) ((AX_ne (n_fst rfl) (n_fst rfl) (n_fst rfl) (n_fst rfl)).trans (hK.a 2 rfl)) ?_
  refine x_iconst hC dX1_init_85 (q := 86) rfl (v := (1)) (by decide) ?_
  refine x_iadd hC dX1_init_86 (q := 87) rfl ?_
  refine x_callSN hC xv_X1_19 dX1_init_87 (q := 90) rfl rfl (m_X0_pick h0 _ ((AX_ne (n_fst rfl) (n_fst rfl) (n_fst rfl) (n_fst rfl)).trans hs) (k := 2) (n := 5) (by omega) (by decide) (by decide)) rfl (Nat.le_of_ble_eq_true rfl) ⟨(Nat.le_of_ble_eq_true rfl), (Nat.le_of_ble_eq_true rfl)⟩ ⟨(Nat.le_of_ble_eq_true rfl), (Nat.le_of_ble_eq_true rfl)⟩ (fun v g1 hp => ?_)
  obtain ⟨rfl, hg1⟩ := hp
  replace hg1 := hg1.symm
  subst hg1
  refine x_iconst hC dX1_init_90 (q := 91) rfl (v := (1)) (by decide) ?_
  refine x_isub hC dX1_init_91 (q := 92) rfl ?_
  refine x_putF hC hnm (n := (101, 0)) xff_X1_36_0 xd_0 rfl dX1_init_92 (q := 95) rfl rfl rfl rfl rfl ?_
  refine x_geq (g' := (AX g aa a_7 a_15 a_22 [.int (nI (aI (aOf f) 0)), .int (nI (aI (aOf f) 1)), .int (nI (pk (f 2) 5) - 1), .int 0, .int 0, .int 0, .int 0, .int 0, .int 0, .ref a_7, .ref a_15, .ref a_22] (fun _ => 0) (fun _ => 0) (fun _ => 0))) (AX_p _ _ _ _ _ _ _ _ _ rfl) ?_
  refine x_aloadr_n hC dX1_init_95 (q := 96) rfl rfl ?_
  refine x_aloadr_n hC dX1_init_96 (q := 97) rfl rfl ?_
  refine x_iconst hC dX1_init_97 (q := 98) rfl (v := (3)) (by decide) ?_
  refine x_gets hC (hS.2 3 (by decide)).1 (Or.inr ⟨_, q1119⟩) dX1_init_98 (q := 101) rfl ?_
  refine x_alen hC dX1_init_101 (q := 102) rfl (n := (1003, 3)) ((AX_ne (n_fst rfl) (n_fst rfl) (n_fst rfl) (n_fst rfl)).trans (hK.a 3 rfl)) ?_
  refine x_iconst hC dX1_init_102 (q := 103) rfl (v := (1)) (by decide) ?_
  refine x_iadd hC dX1_init_103 (q := 104) rfl ?_
  refine x_callSN hC xv_X1_19 dX1_init_104 (q := 107) rfl rfl (m_X0_pick h0 _ ((AX_ne (n_fst rfl) (n_fst rfl) (n_fst rfl) (n_fst rfl)).trans hs) (k := 3) (n := 5) (by omega) (by decide) (by decide)) rfl (Nat.le_of_ble_eq_true rfl) ⟨(Nat.le_of_ble_eq_true rfl), (Nat.le_of_ble_eq_true rfl)⟩ ⟨(Nat.le_of_ble_eq_true rfl), (Nat.le_of_ble_eq_true rfl)⟩ (fun v g1 hp => ?_)
  obtain ⟨rfl, hg1⟩ := hp
  replace hg1 := hg1.symm
  subst hg1
  refine x_iconst hC dX1_init_107 (q := 108) rfl (v := (1)) (by decide) ?_
  refine x_isub hC dX1_init_108 (q := 109) rfl ?_
  refine x_putF hC hnm (n := (101, 0)) xff_X1_42_0 xd_0 rfl dX1_init_109 (q := 112) rfl rfl rfl rfl rfl ?_
  refine x_geq (g' := (AX g aa a_7 a_15 a_22 [.int (nI (aI (aOf f) 0)), .int (nI (aI (aOf f) 1)), .int (nI (pk (f 2) 5) - 1), .int (nI (pk (f 3) 5) - 1), .int 0, .int 0, .int 0, .int 0, .int 0, .ref a_7, .ref a_15, .ref a_22] (fun _ => 0) (fun _ => 0) (fun _ => 0))) (AX_p _ _ _ _ _ _ _ _ _ rfl) ?_
  refine x_aloadr_n hC dX1_init_112 (q := 113) rfl rfl ?_
  refine x_aloadr_n hC dX1_init_113 (q := 114) rfl rfl ?_
  refine x_iconst hC dX1_init_114 (q := 115) rfl (v := (4)) (by decide) ?_
  refine x_gets hC (hS.2 4 (by decide)).1 (Or.inr ⟨_, q1121⟩) dX1_init_115 (q := 118) rfl ?_
  refine x_alen hC dX1_init_118 (q := 119) rfl (n := (1003, 4)) ((AX_ne (n_fst rfl) (n_fst rfl) (n_fst rfl) (n_fst rfl)).trans (hK.a 4 rfl)) ?_
  refine x_iconst hC dX1_init_119 (q := 120) rfl (v := (1)) (by decide) ?_
  refine x_iadd hC dX1_init_120 (q := 121) rfl ?_
  refine x_callSN hC xv_X1_19 dX1_init_121 (q := 124) rfl rfl (m_X0_pick h0 _ ((AX_ne (n_fst rfl) (n_fst rfl) (n_fst rfl) (n_fst rfl)).trans hs) (k := 4) (n := 5) (by omega) (by decide) (by decide)) rfl (Nat.le_of_ble_eq_true rfl) ⟨(Nat.le_of_ble_eq_true rfl), (Nat.le_of_ble_eq_true rfl)⟩ ⟨(Nat.le_of_ble_eq_true rfl), (Nat.le_of_ble_eq_true rfl)⟩ (fun v g1 hp => ?_)
  obtain ⟨rfl, hg1⟩ := hp
  replace hg1 := hg1.symm
  subst hg1
  refine x_iconst hC dX1_init_124 (q := 125) rfl (v := (1)) (by decide) ?_
  refine x_isub hC dX1_init_125 (q := 126) rfl ?_
  refine x_putF hC hnm (n := (101, 0)) xff_X1_48_0 xd_0 rfl dX1_init_126 (q := 129) rfl rfl rfl rfl rfl ?_
  refine x_geq (g' := (AX g aa a_7 a_15 a_22 [.int (nI (aI (aOf f) 0)), .int (nI (aI (aOf f) 1)), .int (nI (pk (f 2) 5) - 1), .int (nI (pk (f 3) 5) - 1), .int (nI (pk (f 4) 5) - 1), .int 0, .int 0, .int 0, .int 0, .ref a_7, .ref a_15, .ref a_22] (fun _ => 0) (fun _ => 0) (fun _ => 0))) (AX_p _ _ _ _ _ _ _ _ _ rfl) ?_
  refine x_aloadr_n hC dX1_init_129 (q := 130) rfl rfl ?_
  refine x_aloadr_n hC dX1_init_130 (q := 131) rfl rfl ?_
  refine x_iconst hC dX1_init_131 (q := 132) rfl (v := (5)) (by decide) ?_
  refine x_gets hC (hS.2 5 (by decide)).1 (Or.inr ⟨_, q1123⟩) dX1_init_132 (q := 135) rfl ?_
  refine x_alen hC dX1_init_135 (q := 136) rfl (n := (1003, 5)) ((AX_ne (n_fst rfl) (n_fst rfl) (n_fst rfl) (n_fst rfl)).trans (hK.a 5 rfl)) ?_
  refine x_iconst hC dX1_init_136 (q := 137) rfl (v := (1)) (by decide) ?_
  refine x_iadd hC dX1_init_137 (q := 138) rfl ?_
  refine x_callSN hC xv_X1_19 dX1_init_138 (q := 141) rfl rfl (m_X0_pick h0 _ ((AX_ne (n_fst rfl) (n_fst rfl) (n_fst rfl) (n_fst rfl)).trans hs) (k := 5) (n := 5) (by omega) (by decide) (by decide)) rfl (Nat.le_of_ble_eq_true rfl) ⟨(Nat.le_of_ble_eq_true rfl), (Nat.le_of_ble_eq_true rfl)⟩ ⟨(Nat.le_of_ble_eq_true rfl), (Nat.le_of_ble_eq_true rfl)⟩ (fun v g1 hp => ?_)
  obtain ⟨rfl, hg1⟩ := hp
  replace hg1 := hg1.symm
  subst hg1
  refine x_iconst hC dX1_init_141 (q := 142) rfl (v := (1)) (by decide) ?_
  refine x_isub hC dX1_init_142 (q := 143) rfl ?_
  refine x_putF hC hnm (n := (101, 0)) xff_X1_54_0 xd_0 rfl dX1_init_143 (q := 146) rfl rfl rfl rfl rfl ?_
  refine x_geq (g' := (AX g aa a_7 a_15 a_22 [.int (nI (aI (aOf f) 0)), .int (nI (aI (aOf f) 1)), .int (nI (pk (f 2) 5) - 1), .int (nI (pk (f 3) 5) - 1), .int (nI (pk (f 4) 5) - 1), .int (nI (pk (f 5) 5) - 1), .int 0, .int 0, .int 0, .ref a_7, .ref a_15, .ref a_22] (fun _ => 0) (fun _ => 0) (fun _ => 0))) (AX_p _ _ _ _ _ _ _ _ _ rfl) ?_
  refine x_aloadr_n hC dX1_init_146 (q := 147) rfl rfl ?_
  refine x_aloadr_n hC dX1_init_147 (q := 148) rfl rfl ?_
  refine x_bipush hC dX1_init_148 (q := 150) rfl (v := (6)) (by decide) ?_
  refine x_bipush hC dX1_init_150 (q := 152) rfl (v := (120)) (by decide) ?_
  refine x_callSN hC xv_X1_19 dX1_init_152 (q := 155) rfl rfl (m_X0_pick h0 _ ((AX_ne (n_fst rfl) (n_fst rfl) (n_fst rfl) (n_fst rfl)).trans hs) (k := 6) (n := 120) (by omega) (by decide) (by decide)) rfl (Nat.le_of_ble_eq_true rfl) ⟨(Nat.le_of_ble_eq_true rfl), (Nat.le_of_ble_eq_true rfl)⟩ ⟨(Nat.le_of_ble_eq_true rfl), (Nat.le_of_ble_eq_true rfl)⟩ (fun v g1 hp => ?_)
  obtain ⟨rfl, hg1⟩ := hp
  replace hg1 := hg1.symm
  subst hg1
  refine x_putF hC hnm (n := (101, 0)) xff_X1_57_0 xd_0 rfl dX1_init_155 (q := 158) rfl rfl rfl rfl rfl ?_
  refine x_geq (g' := (AX g aa a_7 a_15 a_22 [.int (nI (aI (aOf f) 0)), .int (nI (aI (aOf f) 1)), .int (nI (pk (f 2) 5) - 1), .int (nI (pk (f 3) 5) - 1), .int (nI (pk (f 4) 5) - 1), .int (nI (pk (f 5) 5) - 1), .int (nI (aI (aOf f) 6)), .int 0, .int 0, .ref a_7, .ref a_15, .ref a_22] (fun _ => 0) (fun _ => 0) (fun _ => 0))) (AX_p _ _ _ _ _ _ _ _ _ rfl) ?_
  refine x_aloadr_n hC dX1_init_158 (q := 159) rfl rfl ?_
  refine x_aloadr_n hC dX1_init_159 (q := 160) rfl rfl ?_
  refine x_bipush hC dX1_init_160 (q := 162) rfl (v := (7)) (by decide) ?_
  refine x_bipush hC dX1_init_162 (q := 164) rfl (v := (30)) (by decide) ?_
  refine x_callSN hC xv_X1_19 dX1_init_164 (q := 167) rfl rfl (m_X0_pick h0 _ ((AX_ne (n_fst rfl) (n_fst rfl) (n_fst rfl) (n_fst rfl)).trans hs) (k := 7) (n := 30) (by omega) (by decide) (by decide)) rfl (Nat.le_of_ble_eq_true rfl) ⟨(Nat.le_of_ble_eq_true rfl), (Nat.le_of_ble_eq_true rfl)⟩ ⟨(Nat.le_of_ble_eq_true rfl), (Nat.le_of_ble_eq_true rfl)⟩ (fun v g1 hp => ?_)
  obtain ⟨rfl, hg1⟩ := hp
  replace hg1 := hg1.symm
  subst hg1
  refine x_putF hC hnm (n := (101, 0)) xff_X1_60_0 xd_0 rfl dX1_init_167 (q := 170) rfl rfl rfl rfl rfl ?_
  refine x_geq (g' := (AX g aa a_7 a_15 a_22 [.int (nI (aI (aOf f) 0)), .int (nI (aI (aOf f) 1)), .int (nI (pk (f 2) 5) - 1), .int (nI (pk (f 3) 5) - 1), .int (nI (pk (f 4) 5) - 1), .int (nI (pk (f 5) 5) - 1), .int (nI (aI (aOf f) 6)), .int (nI (aI (aOf f) 7)), .int 0, .ref a_7, .ref a_15, .ref a_22] (fun _ => 0) (fun _ => 0) (fun _ => 0))) (AX_p _ _ _ _ _ _ _ _ _ rfl) ?_
  refine x_aloadr_n hC dX1_init_170 (q := 171) rfl rfl ?_
  refine x_aloadr_n hC dX1_init_171 (q := 172) rfl rfl ?_
  refine x_bipush hC dX1_init_172 (q := 174) rfl (v := (8)) (by decide) ?_
  refine x_bipush hC dX1_init_174 (q := 176) rfl (v := (101)) (by decide) ?_
  refine x_callSN hC xv_X1_19 dX1_init_176 (q := 179) rfl rfl (m_X0_pick h0 _ ((AX_ne (n_fst rfl) (n_fst rfl) (n_fst rfl) (n_fst rfl)).trans hs) (k := 8) (n := 101) (by omega) (by decide) (by decide)) rfl (Nat.le_of_ble_eq_true rfl) ⟨(Nat.le_of_ble_eq_true rfl), (Nat.le_of_ble_eq_true rfl)⟩ ⟨(Nat.le_of_ble_eq_true rfl), (Nat.le_of_ble_eq_true rfl)⟩ (fun v g1 hp => ?_)
  obtain ⟨rfl, hg1⟩ := hp
  replace hg1 := hg1.symm
  subst hg1
  refine x_putF hC hnm (n := (101, 0)) xff_X1_63_0 xd_0 rfl dX1_init_179 (q := 182) rfl rfl rfl rfl rfl ?_
  refine x_geq (g' := (AX g aa a_7 a_15 a_22 [.int (nI (aI (aOf f) 0)), .int (nI (aI (aOf f) 1)), .int (nI (pk (f 2) 5) - 1), .int (nI (pk (f 3) 5) - 1), .int (nI (pk (f 4) 5) - 1), .int (nI (pk (f 5) 5) - 1), .int (nI (aI (aOf f) 6)), .int (nI (aI (aOf f) 7)), .int (nI (aI (aOf f) 8)), .ref a_7, .ref a_15, .ref a_22] (fun _ => 0) (fun _ => 0) (fun _ => 0))) (AX_p _ _ _ _ _ _ _ _ _ rfl) ?_
  refine x_iconst hC dX1_init_182 (q := 183) rfl (v := (0)) (by decide) ?_
  refine x_istore hC dX1_init_183 (q := 185) rfl rfl ?_
  have hz0 : (fun _ : Nat => (0 : Int32)) = aF (aCl (aOf f)) 0 := by funext k; unfold aF; rw [if_neg (Nat.not_lt_zero k)]
  have hz1 : (fun _ : Nat => (0 : Int32)) = aF (aGr (aOf f)) 0 := by funext k; unfold aF; rw [if_neg (Nat.not_lt_zero k)]
  refine x_geq (g' := AX g aa a_7 a_15 a_22 [.int (nI (aI (aOf f) 0)), .int (nI (aI (aOf f) 1)), .int (nI (pk (f 2) 5) - 1), .int (nI (pk (f 3) 5) - 1), .int (nI (pk (f 4) 5) - 1), .int (nI (pk (f 5) 5) - 1), .int (nI (aI (aOf f) 6)), .int (nI (aI (aOf f) 7)), .int (nI (aI (aOf f) 8)), .ref a_7, .ref a_15, .ref a_22] (aF (aCl (aOf f)) 0) (aF (aGr (aOf f)) 0) (fun _ => 0)) (by rw [← hz0, ← hz1]) ?_
  refine x_loop (S := (fun x : Nat => ((3 : Nat), (15 : Nat), AX g aa a_7 a_15 a_22 [.int (nI (aI (aOf f) 0)), .int (nI (aI (aOf f) 1)), .int (nI (pk (f 2) 5) - 1), .int (nI (pk (f 3) 5) - 1), .int (nI (pk (f 4) 5) - 1), .int (nI (pk (f 5) 5) - 1), .int (nI (aI (aOf f) 6)), .int (nI (aI (aOf f) 7)), .int (nI (aI (aOf f) 8)), .ref a_7, .ref a_15, .ref a_22] (aF (aCl (aOf f)) x) (aF (aGr (aOf f)) x) (fun _ => 0), ([some (.ref aa), some (.ref sa), some (.int (nI (pk (f 0) 13))), some (.int (nI (pk (f 1) 10))), some (.int (nI x))] : xL), ([] : List Value)))) (Inv := fun x => x ≤ aI (aOf f) 0) (μ := fun x => aI (aOf f) 0 - x) ?_ 0 (Nat.zero_le _)
  intro i hi ih
  dsimp only at hi ih ⊢
  refine x_iload hC dX1_init_185 (q := 187) rfl rfl ?_
  refine x_aloadr_n hC dX1_init_187 (q := 188) rfl rfl ?_
  refine x_get hC xf_X1_25_0 dX1_init_188 (q := 191) rfl (n := (101, 0)) rfl rfl ?_
  refine x_icmp_ge hC dX1_init_191 (q := 194) rfl (tgt := 240) rfl (fun h191 => ?_) (fun h191 => ?_)
  · have hj3 : i = aI (aOf f) 0 := by
      have := (nI_leI (by omega) (by omega)).mp (show nI (aI (aOf f) 0) ≤ nI i from h191)
      omega
    subst hj3
    refine x_iconst hC dX1_init_240 (q := 241) rfl (v := (0)) (by decide) ?_
    refine x_istore hC dX1_init_241 (q := 243) rfl rfl ?_
    have hz2 : (fun _ : Nat => (0 : Int32)) = aF (aRo (aOf f)) 0 := by funext k; unfold aF; rw [if_neg (Nat.not_lt_zero k)]
    refine x_geq (g' := AX g aa a_7 a_15 a_22 [.int (nI (aI (aOf f) 0)), .int (nI (aI (aOf f) 1)), .int (nI (pk (f 2) 5) - 1), .int (nI (pk (f 3) 5) - 1), .int (nI (pk (f 4) 5) - 1), .int (nI (pk (f 5) 5) - 1), .int (nI (aI (aOf f) 6)), .int (nI (aI (aOf f) 7)), .int (nI (aI (aOf f) 8)), .ref a_7, .ref a_15, .ref a_22] (aF (aCl (aOf f)) (aI (aOf f) 0)) (aF (aGr (aOf f)) (aI (aOf f) 0)) (aF (aRo (aOf f)) 0)) (by rw [← hz2]) ?_
    refine x_loop (S := (fun x : Nat => ((3 : Nat), (15 : Nat), AX g aa a_7 a_15 a_22 [.int (nI (aI (aOf f) 0)), .int (nI (aI (aOf f) 1)), .int (nI (pk (f 2) 5) - 1), .int (nI (pk (f 3) 5) - 1), .int (nI (pk (f 4) 5) - 1), .int (nI (pk (f 5) 5) - 1), .int (nI (aI (aOf f) 6)), .int (nI (aI (aOf f) 7)), .int (nI (aI (aOf f) 8)), .ref a_7, .ref a_15, .ref a_22] (aF (aCl (aOf f)) (aI (aOf f) 0)) (aF (aGr (aOf f)) (aI (aOf f) 0)) (aF (aRo (aOf f)) x), ([some (.ref aa), some (.ref sa), some (.int (nI (pk (f 0) 13))), some (.int (nI (pk (f 1) 10))), some (.int (nI x))] : xL), ([] : List Value)))) (Inv := fun x => x ≤ aI (aOf f) 1) (μ := fun x => aI (aOf f) 1 - x) ?_ 0 (Nat.zero_le _)
    intro i hi ih
    dsimp only at hi ih ⊢
    refine x_iload hC dX1_init_243 (q := 245) rfl rfl ?_
    refine x_aloadr_n hC dX1_init_245 (q := 246) rfl rfl ?_
    refine x_get hC xf_X1_29_0 dX1_init_246 (q := 249) rfl (n := (101, 0)) rfl rfl ?_
    refine x_icmp_ge hC dX1_init_249 (q := 252) rfl (tgt := 278) rfl (fun h249 => ?_) (fun h249 => ?_)
    · have hj3 : i = aI (aOf f) 1 := by
        have := (nI_leI (by omega) (by omega)).mp (show nI (aI (aOf f) 1) ≤ nI i from h249)
        omega
      subst hj3
      exact x_vret hC hr dX1_init_278 (Nat.le_of_ble_eq_true rfl) (Nat.le_of_ble_eq_true rfl) ⟨a_7, a_15, a_22, rfl, by rw [nI_m, nI_m, nI_m, nI_m]; rfl⟩
    have hj2 : i < aI (aOf f) 1 := Nat.lt_of_not_le (fun q => h249 (show nI (aI (aOf f) 1) ≤ nI i from nI_le q (by omega)))
    refine x_aloadr_n hC dX1_init_252 (q := 253) rfl rfl ?_
    refine x_get hC xf_X1_16_0 dX1_init_253 (q := 256) rfl (n := (101, 0)) rfl rfl ?_
    refine x_iload hC dX1_init_256 (q := 258) rfl rfl ?_
    refine x_iconst hC dX1_init_258 (q := 259) rfl (v := (1)) (by decide) ?_
    refine x_aloadr_n hC dX1_init_259 (q := 260) rfl rfl ?_
    refine x_bipush hC dX1_init_260 (q := 262) rfl (v := (21)) (by decide) ?_
    refine x_iload hC dX1_init_262 (q := 264) rfl rfl ?_
    refine x_iadd hC dX1_init_264 (q := 265) rfl ?_
    refine x_bipush hC dX1_init_265 (q := 267) rfl (v := (6)) (by decide) ?_
    rw [show (21 : Int32) + nI i = nI (21 + i) from by rw [show (21 : Int32) = nI 21 from rfl, nI_add]]
    refine x_callSN hC xv_X1_19 dX1_init_267 (q := 270) rfl rfl (m_X0_pick h0 _ ((AX_ne (n_fst rfl) (n_fst rfl) (n_fst rfl) (n_fst rfl)).trans hs) (k := 21 + i) (n := 6) (by omega) (by decide) (by decide)) rfl (Nat.le_of_ble_eq_true rfl) ⟨(Nat.le_of_ble_eq_true rfl), (Nat.le_of_ble_eq_true rfl)⟩ ⟨(Nat.le_of_ble_eq_true rfl), (Nat.le_of_ble_eq_true rfl)⟩ (fun v g1 hp => ?_)
    obtain ⟨rfl, hg1⟩ := hp
    replace hg1 := hg1.symm
    subst hg1
    refine x_iadd hC dX1_init_270 (q := 271) rfl ?_
    rw [show (1 : Int32) + nI (pk (f (21 + i)) 6) = nI (aRo (aOf f) i) from by rw [show (1 : Int32) = nI 1 from rfl, nI_add]; rfl]
    refine x_iast hC dX1_init_271 (q := 272) rfl (n := (104, 0)) rfl rfl (j := i) rfl (by omega) (by decide) ?_
    rw [AX_r]
    refine x_geq (congrArg (fun t => AX g aa a_7 a_15 a_22 _ _ _ t) (aF_up (aRo (aOf f)) i)) ?_
    refine x_iinc hC dX1_init_272 (q := 275) rfl rfl (v := nI (i + 1)) (nI_1 i) ?_
    refine x_goto hC dX1_init_275 (tgt := 243) rfl ?_
    exact ih (i + 1) (by (try dsimp only); omega) (by (try dsimp only); omega)
  have hj2 : i < aI (aOf f) 0 := Nat.lt_of_not_le (fun q => h191 (show nI (aI (aOf f) 0) ≤ nI i from nI_le q (by omega)))
  refine x_aloadr_n hC dX1_init_194 (q := 195) rfl rfl ?_
  refine x_get hC xf_X1_7_0 dX1_init_195 (q := 198) rfl (n := (101, 0)) rfl rfl ?_
  refine x_iload hC dX1_init_198 (q := 200) rfl rfl ?_
  refine x_aloadr_n hC dX1_init_200 (q := 201) rfl rfl ?_
  refine x_bipush hC dX1_init_201 (q := 203) rfl (v := (9)) (by decide) ?_
  refine x_iconst hC dX1_init_203 (q := 204) rfl (v := (2)) (by decide) ?_
  refine x_iload hC dX1_init_204 (q := 206) rfl rfl ?_
  refine x_imul hC dX1_init_206 (q := 207) rfl ?_
  refine x_iadd hC dX1_init_207 (q := 208) rfl ?_
  refine x_bipush hC dX1_init_208 (q := 210) rfl (v := (80)) (by decide) ?_
  rw [show (9 : Int32) + 2 * nI i = nI (9 + 2 * i) from by rw [show (2 : Int32) = nI 2 from rfl, nI_mu, show (9 : Int32) = nI 9 from rfl, nI_add]]
  refine x_callSN hC xv_X1_19 dX1_init_210 (q := 213) rfl rfl (m_X0_pick h0 _ ((AX_ne (n_fst rfl) (n_fst rfl) (n_fst rfl) (n_fst rfl)).trans hs) (k := 9 + 2 * i) (n := 80) (by omega) (by decide) (by decide)) rfl (Nat.le_of_ble_eq_true rfl) ⟨(Nat.le_of_ble_eq_true rfl), (Nat.le_of_ble_eq_true rfl)⟩ ⟨(Nat.le_of_ble_eq_true rfl), (Nat.le_of_ble_eq_true rfl)⟩ (fun v g1 hp => ?_)
  obtain ⟨rfl, hg1⟩ := hp
  replace hg1 := hg1.symm
  subst hg1
  refine x_iast hC dX1_init_213 (q := 214) rfl (n := (102, 0)) rfl rfl (j := i) rfl (by omega) (by decide) ?_
  rw [AX_c]
  refine x_geq (congrArg (fun t => AX g aa a_7 a_15 a_22 _ t _ _) (aF_up (aCl (aOf f)) i)) ?_
  refine x_aloadr_n hC dX1_init_214 (q := 215) rfl rfl ?_
  refine x_get hC xf_X1_13_0 dX1_init_215 (q := 218) rfl (n := (101, 0)) rfl rfl ?_
  refine x_iload hC dX1_init_218 (q := 220) rfl rfl ?_
  refine x_aloadr_n hC dX1_init_220 (q := 221) rfl rfl ?_
  refine x_bipush hC dX1_init_221 (q := 223) rfl (v := (10)) (by decide) ?_
  refine x_iconst hC dX1_init_223 (q := 224) rfl (v := (2)) (by decide) ?_
  refine x_iload hC dX1_init_224 (q := 226) rfl rfl ?_
  refine x_imul hC dX1_init_226 (q := 227) rfl ?_
  refine x_iadd hC dX1_init_227 (q := 228) rfl ?_
  refine x_bipush hC dX1_init_228 (q := 230) rfl (v := (10)) (by decide) ?_
  rw [show (10 : Int32) + 2 * nI i = nI (10 + 2 * i) from by rw [show (2 : Int32) = nI 2 from rfl, nI_mu, show (10 : Int32) = nI 10 from rfl, nI_add]]
  refine x_callSN hC xv_X1_19 dX1_init_230 (q := 233) rfl rfl (m_X0_pick h0 _ ((AX_ne (n_fst rfl) (n_fst rfl) (n_fst rfl) (n_fst rfl)).trans hs) (k := 10 + 2 * i) (n := 10) (by omega) (by decide) (by decide)) rfl (Nat.le_of_ble_eq_true rfl) ⟨(Nat.le_of_ble_eq_true rfl), (Nat.le_of_ble_eq_true rfl)⟩ ⟨(Nat.le_of_ble_eq_true rfl), (Nat.le_of_ble_eq_true rfl)⟩ (fun v g1 hp => ?_)
  obtain ⟨rfl, hg1⟩ := hp
  replace hg1 := hg1.symm
  subst hg1
  refine x_iast hC dX1_init_233 (q := 234) rfl (n := (103, 0)) rfl rfl (j := i) rfl (by omega) (by decide) ?_
  rw [AX_g]
  refine x_geq (congrArg (fun t => AX g aa a_7 a_15 a_22 _ _ t _) (aF_up (aGr (aOf f)) i)) ?_
  refine x_iinc hC dX1_init_234 (q := 237) rfl rfl (v := nI (i + 1)) (nI_1 i) ?_
  refine x_goto hC dX1_init_237 (tgt := 185) rfl ?_
  exact ih (i + 1) (by (try dsimp only); omega) (by (try dsimp only); omega)
