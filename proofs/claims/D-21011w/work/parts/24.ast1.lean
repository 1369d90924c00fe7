/-! THE FORMULAS: what an address of a sum (false) or a test (true) stands for, as a function of the asking array -/
abbrev aEnv : Type := Nat → Int64
def kclip (v : Int64) : Int64 := if (-1000000) < (if v < 1000000 then v else 1000000) then (if v < 1000000 then v else 1000000) else (-1000000)
def aJ (sign : Int32) (v x : Int64) : Int64 := if sign = 43 then kclip (v + x) else if sign = 45 then kclip (v - x) else if sign = 42 then kclip (v * x) else if sign = 47 then (if x = 0 then 0 else jdiv64 v x) else (if x = 0 then 0 else jmod64 v x)
def aFold (sg : Nat → Int32) (fs : Nat → aEnv → Int64) (e : aEnv) : Nat → Int64
  | 0 => fs 0 e
  | n + 1 => aJ (sg (n + 1)) (aFold sg fs e n) (fs (n + 1) e)
def aCmp (sg : Int32) (u v : Int64) : Int64 := if sg = 60 then (if u < v then 1 else 0) else if sg = 62 then (if v < u then 1 else 0) else (if u = v then 1 else 0)
/-- all: every one holds; else some one does (from the n-th on, k of them) -/
def aSev (all : Int64) (fs : Nat → aEnv → Int64) (e : aEnv) : Nat → Nat → Int64
  | _, 0 => all
  | n, k + 1 => if fs n e = all then aSev all fs e (n + 1) k else (if all = 0 then 1 else 0)
def aSign (x : Int32) : Prop := x = 43 ∨ x = 45 ∨ x = 42 ∨ x = 47 ∨ x = 37
def aR (g : xG) : Nat → Bool → Nat → (aEnv → Int64) → Prop
  | 0, _, _, _ => False
  | d + 1, false, a, f =>
    (∃ (n : xN) (v : Int32), 40 ≤ n.1 ∧ g n = some (a, xO 7 [.int v]) ∧ f = fun _ => v.toInt64)
    ∨ (∃ (n : xN) (k : Nat), 40 ≤ n.1 ∧ g n = some (a, xO 8 [.int (nI k)]) ∧ k < 10 ∧ f = fun e => e k)
    ∨ (∃ (n nl nd ns nv : xN) (pl sb dl sv N cap cnt : Nat) (mc ml : Int32) (fa : Nat → Option Nat) (sg : Nat → Int32) (ad : Nat → Nat) (fs : Nat → aEnv → Int64), (40 ≤ n.1 ∧ 40 ≤ nl.1 ∧ 40 ≤ nd.1 ∧ 40 ≤ ns.1 ∧ 40 ≤ nv.1) ∧ g n = some (a, xO 15 [.ref pl, .ref sb]) ∧ g nl = some (pl, xO 21 [.int mc, .ref dl, .int (nI cnt)]) ∧ g nd = some (dl, xAr (.object "java/lang/Object") N fa) ∧ g ns = some (sb, xO 22 [.ref sv, .int 0, .int ml, .int (nI cnt)]) ∧ g nv = some (sv, xAi .byte cap sg) ∧ (0 < cnt ∧ cnt ≤ N ∧ cnt ≤ cap ∧ N < 2147483648 ∧ cap < 2147483648) ∧ (∀ j, j < cnt → fa j = some (ad j) ∧ aSign (sg j &&& 255) ∧ aR g d false (ad j) (fs j)) ∧ f = fun e => aFold (fun j => sg j &&& 255) fs e (cnt - 1))
    ∨ (∃ (n : xN) (t a1 a2 : Nat) (ft f1 f2 : aEnv → Int64), 40 ≤ n.1 ∧ g n = some (a, xO 13 [.ref t, .ref a1, .ref a2]) ∧ aR g d true t ft ∧ aR g d false a1 f1 ∧ aR g d false a2 f2 ∧ f = fun e => if ft e = 0 then f2 e else f1 e)
  | d + 1, true, a, f =>
    (∃ (n : xN) (sg : Int32) (a1 a2 : Nat) (f1 f2 : aEnv → Int64), 40 ≤ n.1 ∧ g n = some (a, xO 10 [.int sg, .ref a1, .ref a2]) ∧ aR g d false a1 f1 ∧ aR g d false a2 f2 ∧ f = fun e => aCmp sg (f1 e) (f2 e))
    ∨ (∃ (n nl nd : xN) (tl dl N cnt : Nat) (all mc : Int32) (fa : Nat → Option Nat) (ad : Nat → Nat) (fs : Nat → aEnv → Int64), (40 ≤ n.1 ∧ 40 ≤ nl.1 ∧ 40 ≤ nd.1) ∧ g n = some (a, xO 12 [.int all, .ref tl]) ∧ (all = 0 ∨ all = 1) ∧ g nl = some (tl, xO 21 [.int mc, .ref dl, .int (nI cnt)]) ∧ g nd = some (dl, xAr (.object "java/lang/Object") N fa) ∧ (cnt ≤ N ∧ N < 2147483648) ∧ (∀ j, j < cnt → fa j = some (ad j) ∧ aR g d true (ad j) (fs j)) ∧ f = fun e => aSev all.toInt64 fs e 0 cnt)
theorem aCmp_01 (sg : Int32) (u v : Int64) : aCmp sg u v = 0 ∨ aCmp sg u v = 1 := by
  unfold aCmp
  split
  · split <;> simp
  · split
    · split <;> simp
    · split <;> simp
theorem aSev_01 {all : Int64} (ha : all = 0 ∨ all = 1) (fs : Nat → aEnv → Int64) (e : aEnv) : ∀ (k n : Nat), aSev all fs e n k = 0 ∨ aSev all fs e n k = 1 := by
  intro k
  induction k with
  | zero => intro n; exact ha
  | succ k ih =>
    intro n
    unfold aSev
    split
    · exact ih (n + 1)
    · split <;> simp
theorem aR_01 {g : xG} {d a : Nat} {f : aEnv → Int64} (h : aR g d true a f) (e : aEnv) : f e = 0 ∨ f e = 1 := by
  cases d with
  | zero => exact absurd h id
  | succ d =>
    rcases h with ⟨n, sg, a1, a2, f1, f2, -, -, -, -, rfl⟩ | ⟨n, nl, nd, tl, dl, N, cnt, all, mc, fa, ad, fs, -, -, ha, -, -, -, -, rfl⟩
    · exact aCmp_01 _ _ _
    · exact aSev_01 (by rcases ha with rfl | rfl <;> simp) _ _ _ _

set_option maxHeartbeats 4000000 in
set_option maxRecDepth 100000 in
theorem m_X10_of {l : Launch} {s0 : State} {D : va_G} (h0 : x0 l s0 D) (g : xG) {F Z : Nat} {n : xN} {a ask : Nat} {v : Int32} (h : g n = some (a, xO 7 [.int v])) : xMet l s0 D yX10_of cX10_of 2 (some .long) (xr F 0 0 Z) [.ref a, .ref ask] g (fun r g1 => r = some (.long v.toInt64) ∧ g1 = g) := by
  refine xMet.of h0 (by decide +kernel) rfl ?_
  intro p e s m args below meth c hC hr hnm
  refine x_aloadr_n hC dX10_of_0 (q := 1) rfl rfl ?_
  refine x_get hC xf_X10_7_7 dX10_of_1 (q := 4) rfl (n := n) h rfl ?_
  refine x_i2l hC dX10_of_4 (q := 5) rfl ?_
  exact x_lret hC hr dX10_of_5 (Nat.zero_le _) (Nat.zero_le _) ⟨rfl, rfl⟩

set_option maxHeartbeats 4000000 in
set_option maxRecDepth 100000 in
theorem m_X11_of {l : Launch} {s0 : State} {D : va_G} (h0 : x0 l s0 D) (g : xG) {F Z : Nat} {n : xN} {a k : Nat} (h : g n = some (a, xO 8 [.int (nI k)])) (hk : k < 10) {nA nT : xN} {ask tl : Nat} {e0 : aEnv} (hA : g nA = some (ask, xO 3 [.ref tl])) (hT : g nT = some (tl, xAl 10 e0)) : xMet l s0 D yX11_of cX11_of 2 (some .long) (xr F 0 0 Z) [.ref a, .ref ask] g (fun r g1 => r = some (.long (e0 k)) ∧ g1 = g) := by
  refine xMet.of h0 (by decide +kernel) rfl ?_
  intro p e s m args below meth c hC hr hnm
  refine x_aloadr_n hC dX11_of_0 (q := 1) rfl rfl ?_
  refine x_get hC xf_X11_13_3 dX11_of_1 (q := 4) rfl (n := nA) hA rfl ?_
  refine x_aloadr_n hC dX11_of_4 (q := 5) rfl rfl ?_
  refine x_get hC xf_X11_7_8 dX11_of_5 (q := 8) rfl (n := n) h rfl ?_
  refine x_lald hC dX11_of_8 (q := 9) rfl (n := nT) hT rfl hk (by decide) ?_
  exact x_lret hC hr dX11_of_9 (Nat.zero_le _) (Nat.zero_le _) ⟨rfl, rfl⟩

set_option maxHeartbeats 4000000 in
set_option maxRecDepth 100000 in
theorem m_X2_clip {l : Launch} {s0 : State} {D : va_G} (h0 : x0 l s0 D) (g : xG) (v : Int64) : xMet l s0 D yX2_clip cX2_clip 2 (some .long) (xr 1 0 0 23) [.long v] g (fun r g1 => r = some (.long (kclip v)) ∧ g1 = g) := by
  refine xMet.of h0 (by decide +kernel) rfl ?_
  intro p e s m args below meth c hC hr hnm
  refine x_ldc2_w hC dX2_clip_0 (q := 3) rfl q1510 ?_
  refine x_ldc2_w hC dX2_clip_3 (q := 6) rfl q1511 ?_
  refine x_lload_n hC dX2_clip_6 (q := 7) rfl rfl ?_
  refine x_callS hC xv_X2_65 dX2_clip_7 (q := 10) rfl rfl (m_J0_min_2 h0 g _ _) rfl (Nat.le_of_ble_eq_true rfl) ⟨(Nat.le_of_ble_eq_true rfl), (Nat.le_of_ble_eq_true rfl)⟩ ⟨(Nat.le_of_ble_eq_true rfl), (Nat.le_of_ble_eq_true rfl)⟩ (fun v g1 hp => ?_)
  obtain ⟨rfl, hg1⟩ := hp
  replace hg1 := hg1.symm
  subst hg1
  refine x_callS hC xv_X2_71 dX2_clip_10 (q := 13) rfl rfl (m_J0_max_2 h0 g _ _) rfl (Nat.le_of_ble_eq_true rfl) ⟨(Nat.le_of_ble_eq_true rfl), (Nat.le_of_ble_eq_true rfl)⟩ ⟨(Nat.le_of_ble_eq_true rfl), (Nat.le_of_ble_eq_true rfl)⟩ (fun v g1 hp => ?_)
  obtain ⟨rfl, hg1⟩ := hp
  replace hg1 := hg1.symm
  subst hg1
  exact x_lret hC hr dX2_clip_13 (Nat.le_of_ble_eq_true rfl) (Nat.le_of_ble_eq_true rfl) ⟨rfl, rfl⟩

set_option maxHeartbeats 4000000 in
set_option maxRecDepth 100000 in
theorem m_X18_joined_add {l : Launch} {s0 : State} {D : va_G} (h0 : x0 l s0 D) (g : xG) (v x : Int64) : xMet l s0 D yX18_joined cX18_joined 5 (some .long) (xr 2 0 0 44) [.int 43, .long v, .long x] g (fun r g1 => r = some (.long (aJ 43 v x)) ∧ g1 = g) := by
  refine xMet.of h0 (by decide +kernel) rfl ?_
  intro p e s m args below meth c hC hr hnm
  refine x_iload_n hC dX18_joined_0 (q := 1) rfl rfl ?_
  refine x_tableIn hC dX18_joined_1 (by decide) (by decide) (off := 39) (by decide) (tgt := 40) rfl ?_
  refine x_lload_n hC dX18_joined_40 (q := 41) rfl rfl ?_
  refine x_lload_n hC dX18_joined_41 (q := 42) rfl rfl ?_
  refine x_ladd hC dX18_joined_42 (q := 43) rfl ?_
  refine x_callSN hC xv_X18_31 dX18_joined_43 (q := 46) rfl rfl (m_X2_clip h0 g _) rfl (Nat.le_of_ble_eq_true rfl) ⟨(Nat.le_of_ble_eq_true rfl), (Nat.le_of_ble_eq_true rfl)⟩ ⟨(Nat.le_of_ble_eq_true rfl), (Nat.le_of_ble_eq_true rfl)⟩ (fun v g1 hp => ?_)
  obtain ⟨rfl, hg1⟩ := hp
  replace hg1 := hg1.symm
  subst hg1
  exact x_lret hC hr dX18_joined_46 (Nat.le_of_ble_eq_true rfl) (Nat.le_of_ble_eq_true rfl) ⟨by simp [aJ], rfl⟩

set_option maxHeartbeats 4000000 in
set_option maxRecDepth 100000 in
theorem m_X18_joined_sub {l : Launch} {s0 : State} {D : va_G} (h0 : x0 l s0 D) (g : xG) (v x : Int64) : xMet l s0 D yX18_joined cX18_joined 5 (some .long) (xr 2 0 0 44) [.int 45, .long v, .long x] g (fun r g1 => r = some (.long (aJ 45 v x)) ∧ g1 = g) := by
  refine xMet.of h0 (by decide +kernel) rfl ?_
  intro p e s m args below meth c hC hr hnm
  refine x_iload_n hC dX18_joined_0 (q := 1) rfl rfl ?_
  refine x_tableIn hC dX18_joined_1 (by decide) (by decide) (off := 46) (by decide) (tgt := 47) rfl ?_
  refine x_lload_n hC dX18_joined_47 (q := 48) rfl rfl ?_
  refine x_lload_n hC dX18_joined_48 (q := 49) rfl rfl ?_
  refine x_lsub hC dX18_joined_49 (q := 50) rfl ?_
  refine x_callSN hC xv_X18_31 dX18_joined_50 (q := 53) rfl rfl (m_X2_clip h0 g _) rfl (Nat.le_of_ble_eq_true rfl) ⟨(Nat.le_of_ble_eq_true rfl), (Nat.le_of_ble_eq_true rfl)⟩ ⟨(Nat.le_of_ble_eq_true rfl), (Nat.le_of_ble_eq_true rfl)⟩ (fun v g1 hp => ?_)
  obtain ⟨rfl, hg1⟩ := hp
  replace hg1 := hg1.symm
  subst hg1
  exact x_lret hC hr dX18_joined_53 (Nat.le_of_ble_eq_true rfl) (Nat.le_of_ble_eq_true rfl) ⟨by simp [aJ], rfl⟩

set_option maxHeartbeats 4000000 in
set_option maxRecDepth 100000 in
theorem m_X18_joined_mul {l : Launch} {s0 : State} {D : va_G} (h0 : x0 l s0 D) (g : xG) (v x : Int64) : xMet l s0 D yX18_joined cX18_joined 5 (some .long) (xr 2 0 0 44) [.int 42, .long v, .long x] g (fun r g1 => r = some (.long (aJ 42 v x)) ∧ g1 = g) := by
  refine xMet.of h0 (by decide +kernel) rfl ?_
  intro p e s m args below meth c hC hr hnm
  refine x_iload_n hC dX18_joined_0 (q := 1) rfl rfl ?_
  refine x_tableIn hC dX18_joined_1 (by decide) (by decide) (off := 53) (by decide) (tgt := 54) rfl ?_
  refine x_lload_n hC dX18_joined_54 (q := 55) rfl rfl ?_
  refine x_lload_n hC dX18_joined_55 (q := 56) rfl rfl ?_
  refine x_lmul hC dX18_joined_56 (q := 57) rfl ?_
  refine x_callSN hC xv_X18_31 dX18_joined_57 (q := 60) rfl rfl (m_X2_clip h0 g _) rfl (Nat.le_of_ble_eq_true rfl) ⟨(Nat.le_of_ble_eq_true rfl), (Nat.le_of_ble_eq_true rfl)⟩ ⟨(Nat.le_of_ble_eq_true rfl), (Nat.le_of_ble_eq_true rfl)⟩ (fun v g1 hp => ?_)
  obtain ⟨rfl, hg1⟩ := hp
  replace hg1 := hg1.symm
  subst hg1
  exact x_lret hC hr dX18_joined_60 (Nat.le_of_ble_eq_true rfl) (Nat.le_of_ble_eq_true rfl) ⟨by simp [aJ], rfl⟩

set_option maxHeartbeats 4000000 in
set_option maxRecDepth 100000 in
theorem m_X18_joined_div {l : Launch} {s0 : State} {D : va_G} (h0 : x0 l s0 D) (g : xG) (v x : Int64) : xMet l s0 D yX18_joined cX18_joined 5 (some .long) (xr 2 0 0 44) [.int 47, .long v, .long x] g (fun r g1 => r = some (.long (aJ 47 v x)) ∧ g1 = g) := by
  refine xMet.of h0 (by decide +kernel) rfl ?_
  intro p e s m args below meth c hC hr hnm
  refine x_iload_n hC dX18_joined_0 (q := 1) rfl rfl ?_
  refine x_tableIn hC dX18_joined_1 (by decide) (by decide) (off := 60) (by decide) (tgt := 61) rfl ?_
  refine x_lload_n hC dX18_joined_61 (q := 62) rfl rfl ?_
  refine x_lconst hC dX18_joined_62 (q := 63) rfl (v := 0) (by decide) ?_
  refine x_lcmp hC dX18_joined_63 (q := 64) rfl ?_
  refine x_if_ne hC dX18_joined_64 (q := 67) rfl (tgt := 71) rfl (fun h64 => ?_) (fun h64 => ?_)
  · refine x_lload_n hC dX18_joined_71 (q := 72) rfl rfl ?_
    refine x_lload_n hC dX18_joined_72 (q := 73) rfl rfl ?_
    refine x_callS hC xv_X18_37 dX18_joined_73 (q := 76) rfl rfl (m_J0_floorDiv h0 g _ _ (fun h => h64 (by rw [lg_cmp_eq]; exact h))) rfl (Nat.le_of_ble_eq_true rfl) ⟨(Nat.le_of_ble_eq_true rfl), (Nat.le_of_ble_eq_true rfl)⟩ ⟨(Nat.le_of_ble_eq_true rfl), (Nat.le_of_ble_eq_true rfl)⟩ (fun v g1 hp => ?_)
    obtain ⟨rfl, hg1⟩ := hp
    replace hg1 := hg1.symm
    subst hg1
    exact x_lret hC hr dX18_joined_76 (Nat.le_of_ble_eq_true rfl) (Nat.le_of_ble_eq_true rfl) ⟨by simp only [ne_eq, lg_cmp_eq] at h64; simp [aJ, h64], rfl⟩
  refine x_lconst hC dX18_joined_67 (q := 68) rfl (v := 0) (by decide) ?_
  refine x_goto hC dX18_joined_68 (tgt := 76) rfl ?_
  exact x_lret hC hr dX18_joined_76 (Nat.le_of_ble_eq_true rfl) (Nat.le_of_ble_eq_true rfl) ⟨by simp only [ne_eq, lg_cmp_eq] at h64; simp [aJ, h64], rfl⟩

set_option maxHeartbeats 4000000 in
set_option maxRecDepth 100000 in
theorem m_X18_joined_mod {l : Launch} {s0 : State} {D : va_G} (h0 : x0 l s0 D) (g : xG) (v x : Int64) : xMet l s0 D yX18_joined cX18_joined 5 (some .long) (xr 2 0 0 44) [.int 37, .long v, .long x] g (fun r g1 => r = some (.long (aJ 37 v x)) ∧ g1 = g) := by
  refine xMet.of h0 (by decide +kernel) rfl ?_
  intro p e s m args below meth c hC hr hnm
  refine x_iload_n hC dX18_joined_0 (q := 1) rfl rfl ?_
  refine x_tableOut hC dX18_joined_1 (by decide) (tgt := 77) rfl ?_
  refine x_lload_n hC dX18_joined_77 (q := 78) rfl rfl ?_
  refine x_lconst hC dX18_joined_78 (q := 79) rfl (v := 0) (by decide) ?_
  refine x_lcmp hC dX18_joined_79 (q := 80) rfl ?_
  refine x_if_ne hC dX18_joined_80 (q := 83) rfl (tgt := 87) rfl (fun h80 => ?_) (fun h80 => ?_)
  · refine x_lload_n hC dX18_joined_87 (q := 88) rfl rfl ?_
    refine x_lload_n hC dX18_joined_88 (q := 89) rfl rfl ?_
    refine x_callS hC xv_X18_43 dX18_joined_89 (q := 92) rfl rfl (m_J0_floorMod_2 h0 g _ _ (fun h => h80 (by rw [lg_cmp_eq]; exact h))) rfl (Nat.le_of_ble_eq_true rfl) ⟨(Nat.le_of_ble_eq_true rfl), (Nat.le_of_ble_eq_true rfl)⟩ ⟨(Nat.le_of_ble_eq_true rfl), (Nat.le_of_ble_eq_true rfl)⟩ (fun v g1 hp => ?_)
    obtain ⟨rfl, hg1⟩ := hp
    replace hg1 := hg1.symm
    subst hg1
    exact x_lret hC hr dX18_joined_92 (Nat.le_of_ble_eq_true rfl) (Nat.le_of_ble_eq_true rfl) ⟨by simp only [ne_eq, lg_cmp_eq] at h80; simp [aJ, h80], rfl⟩
  refine x_lconst hC dX18_joined_83 (q := 84) rfl (v := 0) (by decide) ?_
  refine x_goto hC dX18_joined_84 (tgt := 92) rfl ?_
  exact x_lret hC hr dX18_joined_92 (Nat.le_of_ble_eq_true rfl) (Nat.le_of_ble_eq_true rfl) ⟨by simp only [ne_eq, lg_cmp_eq] at h80; simp [aJ, h80], rfl⟩

theorem m_X18_joined {l : Launch} {s0 : State} {D : va_G} (h0 : x0 l s0 D) (g : xG) {k : Int32} (hk : aSign k) (v x : Int64) : xMet l s0 D yX18_joined cX18_joined 5 (some .long) (xr 2 0 0 44) [.int k, .long v, .long x] g (fun r g1 => r = some (.long (aJ k v x)) ∧ g1 = g) := by
  rcases hk with rfl | rfl | rfl | rfl | rfl
  · exact m_X18_joined_add h0 g v x
  · exact m_X18_joined_sub h0 g v x
  · exact m_X18_joined_mul h0 g v x
  · exact m_X18_joined_div h0 g v x
  · exact m_X18_joined_mod h0 g v x
