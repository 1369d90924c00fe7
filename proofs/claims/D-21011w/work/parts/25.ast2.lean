/-! EVALUATION: a sum or a test at depth d answers what it stands for -/
abbrev aRoom (d : Nat) : Room := xr (5 * d + 5) 0 0 (200 * d + 200)
/-- whatever stands at an address is called by its interface, and answers so -/
def aEv (l : Launch) (s0 : State) (D : va_G) (g : xG) (ask : Nat) (e0 : aEnv) (d : Nat) : Prop :=
  (∀ (a : Nat) (f : aEnv → Int64), aR g d false a f → ∃ (C : String) (y : MethodName) (b : ByteArray) (L ci : Nat) (n : xN) (fs : List Value), g n = some (a, .inr (ci, fs)) ∧ xnm (.inr (ci, fs)) = C ∧ Cond.castable C "KilnBench$Sum" ∈ lw_tbl ∧ xFc C yI_of y b L (some .long) 1 ∧ (L ≤ 6 ∧ Nat.blt ci 24 = true) ∧ xMet l s0 D y b L (some .long) (aRoom d) [.ref a, .ref ask] g (fun r g1 => r = some (.long (f e0)) ∧ g1 = g))
  ∧ (∀ (a : Nat) (f : aEnv → Int64), aR g d true a f → ∃ (C : String) (y : MethodName) (b : ByteArray) (L ci : Nat) (n : xN) (fs : List Value), g n = some (a, .inr (ci, fs)) ∧ xnm (.inr (ci, fs)) = C ∧ Cond.castable C "KilnBench$Test" ∈ lw_tbl ∧ xFc C yI_holds y b L (some .boolean) 1 ∧ (L ≤ 6 ∧ Nat.blt ci 24 = true) ∧ xMet l s0 D y b L (some .boolean) (aRoom d) [.ref a, .ref ask] g (fun r g1 => r = some (.int (f e0).toInt32) ∧ g1 = g))

set_option maxHeartbeats 4000000 in
set_option maxRecDepth 100000 in
theorem m_X16_of {l : Launch} {s0 : State} {D : va_G} (h0 : x0 l s0 D) (g : xG) {ask : Nat} {e0 : aEnv} {d : Nat} (hE : aEv l s0 D g ask e0 d) {n : xN} {a t a1 a2 : Nat} {ft f1 f2 : aEnv → Int64} (h : g n = some (a, xO 13 [.ref t, .ref a1, .ref a2])) (ht : aR g d true t ft) (h1 : aR g d false a1 f1) (h2 : aR g d false a2 f2) : xMet l s0 D yX16_of cX16_of 2 (some .long) (aRoom (d + 1)) [.ref a, .ref ask] g (fun r g1 => r = some (.long (if ft e0 = 0 then f2 e0 else f1 e0)) ∧ g1 = g) := by
  refine xMet.of h0 (by decide +kernel) rfl ?_
  intro p e s m args below meth c hC hr hnm
  obtain ⟨CT, yT, bT, LT, ciT, nT, fsT, hgT, hxT, hcT, hfT, ⟨hLT, hokT⟩, hMT⟩ := hE.2 _ _ (ht)
  refine x_aloadr_n hC dX16_of_0 (q := 1) rfl rfl ?_
  refine x_get hC xf_X16_7_13 dX16_of_1 (q := 4) rfl (n := n) h rfl ?_
  refine x_aloadr_n hC dX16_of_4 (q := 5) rfl rfl ?_
  refine x_callF hC q1439 hfT dX16_of_5 (q := 10) rfl rfl hMT (nn := nT) hgT hxT rfl (Nat.le_of_ble_eq_true rfl) ⟨by dsimp only; omega, by dsimp only; omega⟩ ⟨Nat.le_refl _, Nat.le_refl _⟩ (fun v g1 hp => ?_) hokT
  obtain ⟨rfl, hg1⟩ := hp
  replace hg1 := hg1.symm
  subst hg1
  refine x_if_eq hC dX16_of_10 (q := 13) rfl (tgt := 26) rfl (fun h10 => ?_) (fun h10 => ?_)
  · refine x_aloadr_n hC dX16_of_26 (q := 27) rfl rfl ?_
    refine x_get hC xf_X16_17_13 dX16_of_27 (q := 30) rfl (n := n) h rfl ?_
    refine x_aloadr_n hC dX16_of_30 (q := 31) rfl rfl ?_
    obtain ⟨CB, yB, bB, LB, ciB, nB, fsB, hgB, hxB, hcB, hfB, ⟨hLB, hokB⟩, hMB⟩ := hE.1 _ _ (h2)
    refine x_callF hC q1492 hfB dX16_of_31 (q := 36) rfl rfl hMB (nn := nB) hgB hxB rfl (Nat.le_of_ble_eq_true rfl) ⟨by dsimp only; omega, by dsimp only; omega⟩ ⟨Nat.le_refl _, Nat.le_refl _⟩ (fun v g1 hp => ?_) hokB
    obtain ⟨rfl, hg1⟩ := hp
    replace hg1 := hg1.symm
    subst hg1
    exact x_lret hC hr dX16_of_36 (Nat.zero_le _) (Nat.zero_le _) ⟨by rcases aR_01 ht e0 with q | q <;> simp_all, rfl⟩
  refine x_aloadr_n hC dX16_of_13 (q := 14) rfl rfl ?_
  refine x_get hC xf_X16_13_13 dX16_of_14 (q := 17) rfl (n := n) h rfl ?_
  refine x_aloadr_n hC dX16_of_17 (q := 18) rfl rfl ?_
  obtain ⟨CA, yA, bA, LA, ciA, nA, fsA, hgA, hxA, hcA, hfA, ⟨hLA, hokA⟩, hMA⟩ := hE.1 _ _ (h1)
  refine x_callF hC q1492 hfA dX16_of_18 (q := 23) rfl rfl hMA (nn := nA) hgA hxA rfl (Nat.le_of_ble_eq_true rfl) ⟨by dsimp only; omega, by dsimp only; omega⟩ ⟨Nat.le_refl _, Nat.le_refl _⟩ (fun v g1 hp => ?_) hokA
  obtain ⟨rfl, hg1⟩ := hp
  replace hg1 := hg1.symm
  subst hg1
  refine x_goto hC dX16_of_23 (tgt := 36) rfl ?_
  exact x_lret hC hr dX16_of_36 (Nat.zero_le _) (Nat.zero_le _) ⟨by rcases aR_01 ht e0 with q | q <;> simp_all, rfl⟩

set_option maxHeartbeats 4000000 in
set_option maxRecDepth 100000 in
theorem m_X13_holds {l : Launch} {s0 : State} {D : va_G} (h0 : x0 l s0 D) (g : xG) {ask : Nat} {e0 : aEnv} {d : Nat} (hE : aEv l s0 D g ask e0 d) {n : xN} {a a1 a2 : Nat} {sg : Int32} {f1 f2 : aEnv → Int64} (h : g n = some (a, xO 10 [.int sg, .ref a1, .ref a2])) (h1 : aR g d false a1 f1) (h2 : aR g d false a2 f2) : xMet l s0 D yX13_holds cX13_holds 6 (some .boolean) (aRoom (d + 1)) [.ref a, .ref ask] g (fun r g1 => r = some (.int (aCmp sg (f1 e0) (f2 e0)).toInt32) ∧ g1 = g) := by
  refine xMet.of h0 (by decide +kernel) rfl ?_
  intro p e s m args below meth c hC hr hnm
  refine x_aloadr_n hC dX13_holds_0 (q := 1) rfl rfl ?_
  refine x_get hC xf_X13_13_10 dX13_holds_1 (q := 4) rfl (n := n) h rfl ?_
  refine x_aloadr_n hC dX13_holds_4 (q := 5) rfl rfl ?_
  obtain ⟨CA, yA, bA, LA, ciA, nA, fsA, hgA, hxA, hcA, hfA, ⟨hLA, hokA⟩, hMA⟩ := hE.1 _ _ (h1)
  refine x_callF hC q1448 hfA dX13_holds_5 (q := 10) rfl rfl hMA (nn := nA) hgA hxA rfl (Nat.le_of_ble_eq_true rfl) ⟨by dsimp only; omega, by dsimp only; omega⟩ ⟨Nat.le_refl _, Nat.le_refl _⟩ (fun v g1 hp => ?_) hokA
  obtain ⟨rfl, hg1⟩ := hp
  replace hg1 := hg1.symm
  subst hg1
  refine x_lstore_n hC dX13_holds_10 (q := 11) rfl rfl ?_
  refine x_aloadr_n hC dX13_holds_11 (q := 12) rfl rfl ?_
  refine x_get hC xf_X13_17_10 dX13_holds_12 (q := 15) rfl (n := n) h rfl ?_
  refine x_aloadr_n hC dX13_holds_15 (q := 16) rfl rfl ?_
  obtain ⟨CB, yB, bB, LB, ciB, nB, fsB, hgB, hxB, hcB, hfB, ⟨hLB, hokB⟩, hMB⟩ := hE.1 _ _ (h2)
  refine x_callF hC q1448 hfB dX13_holds_16 (q := 21) rfl rfl hMB (nn := nB) hgB hxB rfl (Nat.le_of_ble_eq_true rfl) ⟨by dsimp only; omega, by dsimp only; omega⟩ ⟨Nat.le_refl _, Nat.le_refl _⟩ (fun v g1 hp => ?_) hokB
  obtain ⟨rfl, hg1⟩ := hp
  replace hg1 := hg1.symm
  subst hg1
  refine x_lstore hC dX13_holds_21 (q := 23) rfl rfl ?_
  refine x_aloadr_n hC dX13_holds_23 (q := 24) rfl rfl ?_
  refine x_get hC xf_X13_7_10 dX13_holds_24 (q := 27) rfl (n := n) h rfl ?_
  refine x_bipush hC dX13_holds_27 (q := 29) rfl (v := (60)) (by decide) ?_
  refine x_icmp_ne hC dX13_holds_29 (q := 32) rfl (tgt := 47) rfl (fun h29 => ?_) (fun h29 => ?_)
  · refine x_aloadr_n hC dX13_holds_47 (q := 48) rfl rfl ?_
    refine x_get hC xf_X13_7_10 dX13_holds_48 (q := 51) rfl (n := n) h rfl ?_
    refine x_bipush hC dX13_holds_51 (q := 53) rfl (v := (62)) (by decide) ?_
    refine x_icmp_ne hC dX13_holds_53 (q := 56) rfl (tgt := 71) rfl (fun h53 => ?_) (fun h53 => ?_)
    · refine x_lload_n hC dX13_holds_71 (q := 72) rfl rfl ?_
      refine x_lload hC dX13_holds_72 (q := 74) rfl rfl ?_
      refine x_lcmp hC dX13_holds_74 (q := 75) rfl ?_
      refine x_if_ne hC dX13_holds_75 (q := 78) rfl (tgt := 82) rfl (fun h75 => ?_) (fun h75 => ?_)
      · refine x_iconst hC dX13_holds_82 (q := 83) rfl (v := (0)) (by decide) ?_
        exact x_zret hC hr rfl dX13_holds_83 (Nat.zero_le _) (Nat.zero_le _) ⟨by simp only [ne_eq, lg_cmp_ge, lg_cmp_le, lg_cmp_eq, Int64.le_iff_toInt_le, Int64.lt_iff_toInt_lt] at *; simp only [aCmp, Int64.lt_iff_toInt_lt]; (repeat' split) <;> first | rfl | (exfalso; first | omega | (simp_all; done) | contradiction), rfl⟩
      refine x_iconst hC dX13_holds_78 (q := 79) rfl (v := (1)) (by decide) ?_
      refine x_goto hC dX13_holds_79 (tgt := 83) rfl ?_
      exact x_zret hC hr rfl dX13_holds_83 (Nat.zero_le _) (Nat.zero_le _) ⟨by simp only [ne_eq, lg_cmp_ge, lg_cmp_le, lg_cmp_eq, Int64.le_iff_toInt_le, Int64.lt_iff_toInt_lt] at *; simp only [aCmp, Int64.lt_iff_toInt_lt]; (repeat' split) <;> first | rfl | (exfalso; first | omega | (simp_all; done) | contradiction), rfl⟩
    refine x_lload_n hC dX13_holds_56 (q := 57) rfl rfl ?_
    refine x_lload hC dX13_holds_57 (q := 59) rfl rfl ?_
    refine x_lcmp hC dX13_holds_59 (q := 60) rfl ?_
    refine x_if_le hC dX13_holds_60 (q := 63) rfl (tgt := 67) rfl (fun h60 => ?_) (fun h60 => ?_)
    · refine x_iconst hC dX13_holds_67 (q := 68) rfl (v := (0)) (by decide) ?_
      refine x_goto hC dX13_holds_68 (tgt := 83) rfl ?_
      exact x_zret hC hr rfl dX13_holds_83 (Nat.zero_le _) (Nat.zero_le _) ⟨by simp only [ne_eq, lg_cmp_ge, lg_cmp_le, lg_cmp_eq, Int64.le_iff_toInt_le, Int64.lt_iff_toInt_lt] at *; simp only [aCmp, Int64.lt_iff_toInt_lt]; (repeat' split) <;> first | rfl | (exfalso; first | omega | (simp_all; done) | contradiction), rfl⟩
    refine x_iconst hC dX13_holds_63 (q := 64) rfl (v := (1)) (by decide) ?_
    refine x_goto hC dX13_holds_64 (tgt := 83) rfl ?_
    exact x_zret hC hr rfl dX13_holds_83 (Nat.zero_le _) (Nat.zero_le _) ⟨by simp only [ne_eq, lg_cmp_ge, lg_cmp_le, lg_cmp_eq, Int64.le_iff_toInt_le, Int64.lt_iff_toInt_lt] at *; simp only [aCmp, Int64.lt_iff_toInt_lt]; (repeat' split) <;> first | rfl | (exfalso; first | omega | (simp_all; done) | contradiction), rfl⟩
  refine x_lload_n hC dX13_holds_32 (q := 33) rfl rfl ?_
  refine x_lload hC dX13_holds_33 (q := 35) rfl rfl ?_
  refine x_lcmp hC dX13_holds_35 (q := 36) rfl ?_
  refine x_if_ge hC dX13_holds_36 (q := 39) rfl (tgt := 43) rfl (fun h36 => ?_) (fun h36 => ?_)
  · refine x_iconst hC dX13_holds_43 (q := 44) rfl (v := (0)) (by decide) ?_
    refine x_goto hC dX13_holds_44 (tgt := 83) rfl ?_
    exact x_zret hC hr rfl dX13_holds_83 (Nat.zero_le _) (Nat.zero_le _) ⟨by simp only [ne_eq, lg_cmp_ge, lg_cmp_le, lg_cmp_eq, Int64.le_iff_toInt_le, Int64.lt_iff_toInt_lt] at *; simp only [aCmp, Int64.lt_iff_toInt_lt]; (repeat' split) <;> first | rfl | (exfalso; first | omega | (simp_all; done) | contradiction), rfl⟩
  refine x_iconst hC dX13_holds_39 (q := 40) rfl (v := (1)) (by decide) ?_
  refine x_goto hC dX13_holds_40 (tgt := 83) rfl ?_
  exact x_zret hC hr rfl dX13_holds_83 (Nat.zero_le _) (Nat.zero_le _) ⟨by simp only [ne_eq, lg_cmp_ge, lg_cmp_le, lg_cmp_eq, Int64.le_iff_toInt_le, Int64.lt_iff_toInt_lt] at *; simp only [aCmp, Int64.lt_iff_toInt_lt]; (repeat' split) <;> first | rfl | (exfalso; first | omega | (simp_all; done) | contradiction), rfl⟩

set_option maxHeartbeats 4000000 in
set_option maxRecDepth 100000 in
theorem m_X18_of {l : Launch} {s0 : State} {D : va_G} (h0 : x0 l s0 D) (g : xG) {ask : Nat} {e0 : aEnv} {d : Nat} (hE : aEv l s0 D g ask e0 d) {n nl nd ns nv : xN} {a pl sb dl sv N cap cnt : Nat} {mc ml : Int32} {fa : Nat → Option Nat} {sg : Nat → Int32} {ad : Nat → Nat} {fs : Nat → aEnv → Int64} (h : g n = some (a, xO 15 [.ref pl, .ref sb])) (hl : g nl = some (pl, xO 21 [.int mc, .ref dl, .int (nI cnt)])) (hd : g nd = some (dl, xAr (.object "java/lang/Object") N fa)) (hs : g ns = some (sb, xO 22 [.ref sv, .int 0, .int ml, .int (nI cnt)])) (hv : g nv = some (sv, xAi .byte cap sg)) (hb : 0 < cnt ∧ cnt ≤ N ∧ cnt ≤ cap ∧ N < 2147483648 ∧ cap < 2147483648) (hp0 : ∀ j, j < cnt → fa j = some (ad j) ∧ aSign (sg j &&& 255) ∧ aR g d false (ad j) (fs j)) : xMet l s0 D yX18_of cX18_of 5 (some .long) (aRoom (d + 1)) [.ref a, .ref ask] g (fun r g1 => r = some (.long (aFold (fun j => sg j &&& 255) fs e0 (cnt - 1))) ∧ g1 = g) := by
  refine xMet.of h0 (by decide +kernel) rfl ?_
  intro p e s m args below meth c hC hr hnm
  obtain ⟨CZ, yZ, bZ, LZ, ciZ, nZ, fsZ, hgZ, hxZ, hcZ, hfZ, ⟨hLZ, hokZ⟩, hMZ⟩ := hE.1 _ _ ((hp0 0 hb.1).2.2)
  have hz0 : fa 0 = some (ad 0) := (hp0 0 hb.1).1
  refine x_aloadr_n hC dX18_of_0 (q := 1) rfl rfl ?_
  refine x_get hC xf_X18_10_15 dX18_of_1 (q := 4) rfl (n := n) h rfl ?_
  refine x_iconst hC dX18_of_4 (q := 5) rfl (v := (0)) (by decide) ?_
  refine x_callV hC xv_X18_46 dX18_of_5 (q := 8) rfl rfl (m_J3_get h0 g hl hd (j := 0) rfl rfl hb.1 hb.2.1 hb.2.2.2.1) (nn := nl) hl rfl rfl (Nat.le_of_ble_eq_true rfl) ⟨by dsimp only; omega, by dsimp only; omega⟩ ⟨Nat.le_refl _, Nat.le_refl _⟩ (fun v g1 hp => ?_)
  rw [hz0] at hp
  obtain ⟨rfl, hg1⟩ := hp
  replace hg1 := hg1.symm
  subst hg1
  refine x_castY hC q1429 (by rw [hxZ]; exact hcZ) dX18_of_8 (q := 11) rfl (n := nZ) hgZ ?_ hokZ
  refine x_aloadr_n hC dX18_of_11 (q := 12) rfl rfl ?_
  refine x_callF hC q1431 hfZ dX18_of_12 (q := 17) rfl rfl hMZ (nn := nZ) hgZ hxZ rfl (Nat.le_of_ble_eq_true rfl) ⟨by dsimp only; omega, by dsimp only; omega⟩ ⟨Nat.le_refl _, Nat.le_refl _⟩ (fun v g1 hp => ?_) hokZ
  obtain ⟨rfl, hg1⟩ := hp
  replace hg1 := hg1.symm
  subst hg1
  refine x_lstore_n hC dX18_of_17 (q := 18) rfl rfl ?_
  refine x_iconst hC dX18_of_18 (q := 19) rfl (v := (1)) (by decide) ?_
  refine x_istore hC dX18_of_19 (q := 21) rfl rfl ?_
  refine x_loop (S := (fun i => ((0 : Nat), (0 : Nat), g, ([some (.ref a), some (.ref ask), some (.long (aFold (fun j => sg j &&& 255) fs e0 i)), none, some (.int (nI (i + 1)))] : xL), ([] : List Value)))) (Inv := fun i => i < cnt) (μ := fun i => cnt - i) ?_ 0 hb.1
  intro i hi ih
  dsimp only at ih ⊢
  refine x_iload hC dX18_of_21 (q := 23) rfl rfl ?_
  refine x_aloadr_n hC dX18_of_23 (q := 24) rfl rfl ?_
  refine x_get hC xf_X18_10_15 dX18_of_24 (q := 27) rfl (n := n) h rfl ?_
  refine x_callV hC xv_X18_56 dX18_of_27 (q := 30) rfl rfl (m_J3_size h0 g hl) (nn := nl) hl rfl rfl (Nat.le_of_ble_eq_true rfl) ⟨by dsimp only; omega, by dsimp only; omega⟩ ⟨Nat.le_refl _, Nat.le_refl _⟩ (fun v g1 hp => ?_)
  obtain ⟨rfl, hg1⟩ := hp
  replace hg1 := hg1.symm
  subst hg1
  refine x_icmp_ge hC dX18_of_30 (q := 33) rfl (tgt := 71) rfl (fun h30 => ?_) (fun h30 => ?_)
  · have hi2 : i + 1 = cnt := by
      have := (nI_leI (by omega) (by omega)).mp h30
      omega
    refine x_lload_n hC dX18_of_71 (q := 72) rfl rfl ?_
    exact x_lret hC hr dX18_of_72 (Nat.zero_le _) (Nat.zero_le _) ⟨by rw [← hi2]; rfl, rfl⟩
  have hi2 : i + 1 < cnt := Nat.lt_of_not_le (fun q => h30 (nI_le q (by omega)))
  obtain ⟨CJ, yJ, bJ, LJ, ciJ, nJ, fsJ, hgJ, hxJ, hcJ, hfJ, ⟨hLJ, hokJ⟩, hMJ⟩ := hE.1 _ _ ((hp0 (i + 1) hi2).2.2)
  have hzj : fa (i + 1) = some (ad (i + 1)) := (hp0 (i + 1) hi2).1
  refine x_aloadr_n hC dX18_of_33 (q := 34) rfl rfl ?_
  refine x_get hC xf_X18_19_15 dX18_of_34 (q := 37) rfl (n := n) h rfl ?_
  refine x_iload hC dX18_of_37 (q := 39) rfl rfl ?_
  refine x_callV hC xv_X18_60 dX18_of_39 (q := 42) rfl rfl (m_J5_charAt h0 g hs hv (j := i + 1) rfl hi2 hb.2.2.1 hb.2.2.2.2) (nn := ns) hs rfl rfl (Nat.le_of_ble_eq_true rfl) ⟨by dsimp only; omega, by dsimp only; omega⟩ ⟨Nat.le_refl _, Nat.le_refl _⟩ (fun v g1 hp => ?_)
  obtain ⟨rfl, hg1⟩ := hp
  replace hg1 := hg1.symm
  subst hg1
  refine x_lload_n hC dX18_of_42 (q := 43) rfl rfl ?_
  refine x_aloadr_n hC dX18_of_43 (q := 44) rfl rfl ?_
  refine x_get hC xf_X18_10_15 dX18_of_44 (q := 47) rfl (n := n) h rfl ?_
  refine x_iload hC dX18_of_47 (q := 49) rfl rfl ?_
  refine x_callV hC xv_X18_46 dX18_of_49 (q := 52) rfl rfl (m_J3_get h0 g hl hd (j := i + 1) rfl rfl hi2 hb.2.1 hb.2.2.2.1) (nn := nl) hl rfl rfl (Nat.le_of_ble_eq_true rfl) ⟨by dsimp only; omega, by dsimp only; omega⟩ ⟨Nat.le_refl _, Nat.le_refl _⟩ (fun v g1 hp => ?_)
  rw [hzj] at hp
  obtain ⟨rfl, hg1⟩ := hp
  replace hg1 := hg1.symm
  subst hg1
  refine x_castY hC q1429 (by rw [hxJ]; exact hcJ) dX18_of_52 (q := 55) rfl (n := nJ) hgJ ?_ hokJ
  refine x_aloadr_n hC dX18_of_55 (q := 56) rfl rfl ?_
  refine x_callF hC q1431 hfJ dX18_of_56 (q := 61) rfl rfl hMJ (nn := nJ) hgJ hxJ rfl (Nat.le_of_ble_eq_true rfl) ⟨by dsimp only; omega, by dsimp only; omega⟩ ⟨Nat.le_refl _, Nat.le_refl _⟩ (fun v g1 hp => ?_) hokJ
  obtain ⟨rfl, hg1⟩ := hp
  replace hg1 := hg1.symm
  subst hg1
  refine x_callS hC xv_X18_64 dX18_of_61 (q := 64) rfl rfl (m_X18_joined h0 g (hp0 (i + 1) hi2).2.1 _ _) rfl (Nat.le_of_ble_eq_true rfl) ⟨by dsimp only; omega, by dsimp only; omega⟩ ⟨Nat.le_refl _, Nat.le_refl _⟩ (fun v g1 hp => ?_)
  obtain ⟨rfl, hg1⟩ := hp
  replace hg1 := hg1.symm
  subst hg1
  refine x_lstore_n hC dX18_of_64 (q := 65) rfl rfl ?_
  refine x_iinc hC dX18_of_65 (q := 68) rfl rfl (v := nI (i + 1 + 1)) (nI_1 (i + 1)) ?_
  refine x_goto hC dX18_of_68 (tgt := 21) rfl ?_
  exact ih (i + 1) (by omega) (by omega)

set_option maxHeartbeats 4000000 in
set_option maxRecDepth 100000 in
theorem m_X15_holds {l : Launch} {s0 : State} {D : va_G} (h0 : x0 l s0 D) (g : xG) {ask : Nat} {e0 : aEnv} {d : Nat} (hE : aEv l s0 D g ask e0 d) {n nl nd : xN} {a tl dl N cnt : Nat} {all mc : Int32} {fa : Nat → Option Nat} {ad : Nat → Nat} {fs : Nat → aEnv → Int64} (h : g n = some (a, xO 12 [.int all, .ref tl])) (ha : all = 0 ∨ all = 1) (hl : g nl = some (tl, xO 21 [.int mc, .ref dl, .int (nI cnt)])) (hd : g nd = some (dl, xAr (.object "java/lang/Object") N fa)) (hb : cnt ≤ N ∧ N < 2147483648) (hp0 : ∀ j, j < cnt → fa j = some (ad j) ∧ aR g d true (ad j) (fs j)) : xMet l s0 D yX15_holds cX15_holds 3 (some .boolean) (aRoom (d + 1)) [.ref a, .ref ask] g (fun r g1 => r = some (.int (aSev all.toInt64 fs e0 0 cnt).toInt32) ∧ g1 = g) := by
  refine xMet.of h0 (by decide +kernel) rfl ?_
  intro p e s m args below meth c hC hr hnm
  refine x_iconst hC dX15_holds_0 (q := 1) rfl (v := (0)) (by decide) ?_
  refine x_istore_n hC dX15_holds_1 (q := 2) rfl rfl ?_
  refine x_loop (S := (fun i => ((0 : Nat), (0 : Nat), g, ([some (.ref a), some (.ref ask), some (.int (nI i))] : xL), ([] : List Value)))) (Inv := fun i => i ≤ cnt ∧ aSev all.toInt64 fs e0 0 cnt = aSev all.toInt64 fs e0 i (cnt - i)) (μ := fun i => cnt - i) ?_ 0 ⟨Nat.zero_le _, rfl⟩
  intro i hi ih
  dsimp only at ih ⊢
  refine x_iload_n hC dX15_holds_2 (q := 3) rfl rfl ?_
  refine x_aloadr_n hC dX15_holds_3 (q := 4) rfl rfl ?_
  refine x_get hC xf_X15_10_12 dX15_holds_4 (q := 7) rfl (n := n) h rfl ?_
  refine x_callV hC xv_X15_24 dX15_holds_7 (q := 10) rfl rfl (m_J3_size h0 g hl) (nn := nl) hl rfl rfl (Nat.le_of_ble_eq_true rfl) ⟨by dsimp only; omega, by dsimp only; omega⟩ ⟨Nat.le_refl _, Nat.le_refl _⟩ (fun v g1 hp => ?_)
  obtain ⟨rfl, hg1⟩ := hp
  replace hg1 := hg1.symm
  subst hg1
  refine x_icmp_ge hC dX15_holds_10 (q := 13) rfl (tgt := 56) rfl (fun h10 => ?_) (fun h10 => ?_)
  · have hi2 : i = cnt := by
      have := (nI_leI (by omega) (by omega)).mp h10
      omega
    refine x_aloadr_n hC dX15_holds_56 (q := 57) rfl rfl ?_
    refine x_get hC xf_X15_16_12 dX15_holds_57 (q := 60) rfl (n := n) h rfl ?_
    exact x_zret hC hr (by rcases ha with r | r <;> rw [r] <;> rfl) dX15_holds_60 (Nat.zero_le _) (Nat.zero_le _) ⟨by rw [hi.2, hi2, Nat.sub_self]; rcases ha with r | r <;> rw [r] <;> rfl, rfl⟩
  have hi2 : i < cnt := Nat.lt_of_not_le (fun q => h10 (nI_le q (by omega)))
  obtain ⟨CJ, yJ, bJ, LJ, ciJ, nJ, fsJ, hgJ, hxJ, hcJ, hfJ, ⟨hLJ, hokJ⟩, hMJ⟩ := hE.2 _ _ ((hp0 i hi2).2)
  have hzj : fa i = some (ad i) := (hp0 i hi2).1
  have hst : aSev all.toInt64 fs e0 i (cnt - i) = if fs i e0 = all.toInt64 then aSev all.toInt64 fs e0 (i + 1) (cnt - (i + 1)) else (if all.toInt64 = 0 then 1 else 0) := by
    rw [show cnt - i = (cnt - (i + 1)) + 1 by omega]
    rfl
  have h01 := aR_01 (hp0 i hi2).2 e0
  refine x_aloadr_n hC dX15_holds_13 (q := 14) rfl rfl ?_
  refine x_get hC xf_X15_10_12 dX15_holds_14 (q := 17) rfl (n := n) h rfl ?_
  refine x_iload_n hC dX15_holds_17 (q := 18) rfl rfl ?_
  refine x_callV hC xv_X15_28 dX15_holds_18 (q := 21) rfl rfl (m_J3_get h0 g hl hd (j := i) rfl rfl hi2 hb.1 hb.2) (nn := nl) hl rfl rfl (Nat.le_of_ble_eq_true rfl) ⟨by dsimp only; omega, by dsimp only; omega⟩ ⟨Nat.le_refl _, Nat.le_refl _⟩ (fun v g1 hp => ?_)
  rw [hzj] at hp
  obtain ⟨rfl, hg1⟩ := hp
  replace hg1 := hg1.symm
  subst hg1
  refine x_castY hC q1488 (by rw [hxJ]; exact hcJ) dX15_holds_21 (q := 24) rfl (n := nJ) hgJ ?_ hokJ
  refine x_aloadr_n hC dX15_holds_24 (q := 25) rfl rfl ?_
  refine x_callF hC q1490 hfJ dX15_holds_25 (q := 30) rfl rfl hMJ (nn := nJ) hgJ hxJ rfl (Nat.le_of_ble_eq_true rfl) ⟨by dsimp only; omega, by dsimp only; omega⟩ ⟨Nat.le_refl _, Nat.le_refl _⟩ (fun v g1 hp => ?_) hokJ
  obtain ⟨rfl, hg1⟩ := hp
  replace hg1 := hg1.symm
  subst hg1
  refine x_aloadr_n hC dX15_holds_30 (q := 31) rfl rfl ?_
  refine x_get hC xf_X15_16_12 dX15_holds_31 (q := 34) rfl (n := n) h rfl ?_
  refine x_icmp_eq hC dX15_holds_34 (q := 37) rfl (tgt := 50) rfl (fun h34 => ?_) (fun h34 => ?_)
  · have hi3 : aSev all.toInt64 fs e0 0 cnt = aSev all.toInt64 fs e0 (i + 1) (cnt - (i + 1)) := by
      rw [hi.2, hst, if_pos (by rcases h01 with q | q <;> rcases ha with r | r <;> rw [q, r] at h34 ⊢ <;> first | rfl | exact absurd h34 (by decide))]
    refine x_iinc hC dX15_holds_50 (q := 53) rfl rfl (v := nI (i + 1)) (nI_1 i) ?_
    refine x_goto hC dX15_holds_53 (tgt := 2) rfl ?_
    exact ih (i + 1) ⟨hi2, hi3⟩ (by omega)
  refine x_aloadr_n hC dX15_holds_37 (q := 38) rfl rfl ?_
  refine x_get hC xf_X15_16_12 dX15_holds_38 (q := 41) rfl (n := n) h rfl ?_
  refine x_if_ne hC dX15_holds_41 (q := 44) rfl (tgt := 48) rfl (fun h41 => ?_) (fun h41 => ?_)
  · refine x_iconst hC dX15_holds_48 (q := 49) rfl (v := (0)) (by decide) ?_
    exact x_zret hC hr rfl dX15_holds_49 (Nat.zero_le _) (Nat.zero_le _) ⟨by rw [hi.2, hst, if_neg (by rcases h01 with q | q <;> rcases ha with r | r <;> rw [q, r] at h34 ⊢ <;> first | decide | exact absurd rfl h34)]; rcases ha with r | r <;> simp_all, rfl⟩
  refine x_iconst hC dX15_holds_44 (q := 45) rfl (v := (1)) (by decide) ?_
  refine x_goto hC dX15_holds_45 (tgt := 49) rfl ?_
  exact x_zret hC hr rfl dX15_holds_49 (Nat.zero_le _) (Nat.zero_le _) ⟨by rw [hi.2, hst, if_neg (by rcases h01 with q | q <;> rcases ha with r | r <;> rw [q, r] at h34 ⊢ <;> first | decide | exact absurd rfl h34)]; rcases ha with r | r <;> simp_all, rfl⟩

/-- EVERY formula answers what it stands for -/
theorem aEv_all {l : Launch} {s0 : State} {D : va_G} (h0 : x0 l s0 D) (g : xG) {nA nT : xN} {ask tl : Nat} {e0 : aEnv} (hA : g nA = some (ask, xO 3 [.ref tl])) (hT : g nT = some (tl, xAl 10 e0)) : ∀ d, aEv l s0 D g ask e0 d := by
  intro d
  induction d with
  | zero => exact ⟨fun a f h => absurd h id, fun a f h => absurd h id⟩
  | succ d ih =>
    refine ⟨fun a f h => ?_, fun a f h => ?_⟩
    · rcases h with ⟨n, v, -, hg, rfl⟩ | ⟨n, k, -, hg, hk, rfl⟩ | ⟨n, nl, nd, ns, nv, pl, sb, dl, sv, N, cap, cnt, mc, ml, fa, sg, ad, fs, -, h1, h2, h3, h4, h5, h6, h7, rfl⟩ | ⟨n, t, a1, a2, ft, f1, f2, -, h1, h2, h3, h4, rfl⟩
      · exact ⟨_, _, _, _, _, n, _, hg, rfl, q1457, xfc_X10_of, ⟨by decide, rfl⟩, m_X10_of h0 g hg⟩
      · exact ⟨_, _, _, _, _, n, _, hg, rfl, q1416, xfc_X11_of, ⟨by decide, rfl⟩, m_X11_of h0 g hg hk hA hT⟩
      · exact ⟨_, _, _, _, _, n, _, h1, rfl, q1422, xfc_X18_of, ⟨by decide, rfl⟩, m_X18_of h0 g ih h1 h2 h3 h4 h5 h6 h7⟩
      · exact ⟨_, _, _, _, _, n, _, h1, rfl, q1432, xfc_X16_of, ⟨by decide, rfl⟩, m_X16_of h0 g ih h1 h2 h3 h4⟩
    · rcases h with ⟨n, sg, a1, a2, f1, f2, -, h1, h2, h3, rfl⟩ | ⟨n, nl, nd, tl', dl, N, cnt, all, mc, fa, ad, fs, -, h1, ha, h2, h3, h4, h5, rfl⟩
      · exact ⟨_, _, _, _, _, n, _, h1, rfl, q910, xfc_X13_holds, ⟨by decide, rfl⟩, m_X13_holds h0 g ih h1 h2 h3⟩
      · exact ⟨_, _, _, _, _, n, _, h1, rfl, q933, xfc_X15_holds, ⟨by decide, rfl⟩, m_X15_holds h0 g ih h1 ha h2 h3 h4 h5⟩
