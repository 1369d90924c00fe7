/-! the town that is read: Town (70, 0), its lists (71..74, 0), children (75, c) with their names (76, c) (77, c), kilns (78, q) with their places (79, q) and names (80, q) (81, q) -/
abbrev tS : Type := Nat × Nat × (Nat → Nat) × (Nat → Nat) × (Nat → Nat) × Nat × Nat × Nat × Nat
def tnc (τ : tS) : Nat := τ.1
def tnk (τ : tS) : Nat := τ.2.1
def tcl (τ : tS) : Nat → Nat := τ.2.2.1
def tgr (τ : tS) : Nat → Nat := τ.2.2.2.1
def trm (τ : tS) : Nat → Nat := τ.2.2.2.2.1
def tfu (τ : tS) : Nat := τ.2.2.2.2.2.1
def tlo (τ : tS) : Nat := τ.2.2.2.2.2.2.1
def twi (τ : tS) : Nat := τ.2.2.2.2.2.2.2.1
def tst (τ : tS) : Nat := τ.2.2.2.2.2.2.2.2
def ncw (c : Nat) : List Nat := [99, 97 + c]
def nkw (c : Nat) : List Nat := [107, 97 + c]
abbrev tTown (τ : tS) (fo : Nat → Option Nat) (la lk : Nat) : xE := xO 2 [.int (nI (tfu τ)), .int (nI (tlo τ)), .int (nI (twi τ)), .int (nI (tst τ)), va_rf (fo 0), va_rf (fo 1), va_rf (fo 2), va_rf (fo 3), .ref la, .ref lk]
abbrev tStr (v : Nat) : xE := xO 23 [.ref v, .int 0, .int 0, .int 0]
def tList (g : xG) (nl nd : xN) (a d0 n : Nat) (ad : Nat → Nat) : Prop := ∃ (d : Nat) (mc : Int32), g nl = some (a, xO 21 [.int mc, .ref d, .int (nI n)]) ∧ (n = 0 → d = d0 ∧ g nd = none) ∧ (0 < n → g nd = some (d, xAr (.object "java/lang/Object") 10 (fun j => if j < n then some (ad j) else none)))
def tKid (g : xG) (τ : tS) (ca : Nat → Nat) (c : Nat) : Prop := c < tnc τ → ∃ s v, g (75, c) = some (ca c, xO 5 [.ref s, .int (nI c), .int (nI (tcl τ c)), .int (nI (tgr τ c)), .int (-1), .int (-1), .int 0, .null, .int 0]) ∧ g (76, c) = some (s, tStr v) ∧ g (77, c) = some (v, xAi .byte (ncw c).length (sL (ncw c)))
def tKln (g : xG) (τ : tS) (ka pa : Nat → Nat) (q : Nat) : Prop := q < tnk τ → ∃ s v, g (78, q) = some (ka q, xO 6 [.ref s, .int (nI q), .int (nI (trm τ q)), .int (-1), .ref (pa q)]) ∧ g (79, q) = some (pa q, xAr (.object "KilnBench$Child") 6 (fun _ => none)) ∧ g (80, q) = some (s, tStr v) ∧ g (81, q) = some (v, xAi .byte (nkw q).length (sL (nkw q)))
/-- the names of children and kilns to come are free -/
def TN (g : xG) (τ : tS) : Prop := (∀ c, tnc τ ≤ c → g (75, c) = none ∧ g (76, c) = none ∧ g (77, c) = none) ∧ ∀ q, tnk τ ≤ q → g (78, q) = none ∧ g (79, q) = none ∧ g (80, q) = none ∧ g (81, q) = none
def TW (g : xG) (ht d0 : Nat) (τ : tS) (fo : Nat → Option Nat) (ca ka pa : Nat → Nat) : Prop := ∃ la lk, g (70, 0) = some (ht, tTown τ fo la lk) ∧ tList g (71, 0) (72, 0) la d0 (tnc τ) ca ∧ tList g (73, 0) (74, 0) lk d0 (tnk τ) ka ∧ (∀ c, tKid g τ ca c) ∧ (∀ q, tKln g τ ka pa q) ∧ tnc τ ≤ 6 ∧ tnk τ ≤ 3
/-- names of the town are as before -/
def TF (g g1 : xG) : Prop := ∀ n : xN, 70 ≤ n.1 → n.1 ≤ 81 → g1 n = g n
theorem TF.k {g g1 : xG} (h : TF g g1) (a i : Nat) (h1 : Nat.ble 70 a = true) (h2 : Nat.ble a 81 = true) : g1 (a, i) = g (a, i) := h _ (Nat.le_of_ble_eq_true h1) (Nat.le_of_ble_eq_true h2)
theorem TF.px {g g1 : xG} (h : PX g g1) : TF g g1 := fun n h1 h2 => h n (fun q => by rw [q] at h1; exact absurd h1 (by decide)) (fun q => by rw [q] at h1; exact absurd h1 (by decide)) (fun q => by rw [q] at h1; exact absurd h1 (by decide))
theorem TF.pf {g g1 : xG} {N : Nat} (h : PF N g g1) : TF g g1 := fun n h1 h2 => h n (fun q => by rw [q] at h1; exact absurd h1 (by decide)) (fun q => by rw [q] at h1; exact absurd h1 (by decide)) (fun q => by rw [q] at h1; exact absurd h1 (by decide)) (fun q => by rw [q.1] at h2; exact absurd h2 (by decide))
theorem TF.trans {g g1 g2 : xG} (h1 : TF g g1) (h2 : TF g1 g2) : TF g g2 := fun n a b => (h2 n a b).trans (h1 n a b)
theorem TF.r0 {g : xG} : TF g g := fun _ _ _ => Eq.refl _
theorem TF.u60 {g g1 : xG} (h : TF g g1) (x : Option (Nat × xE)) : TF g (xu g1 (60, 0) x) := fun n a b => by rw [xu_ne (fun q => by rw [q] at a; exact absurd a (by decide))]; exact h n a b
theorem tList.ext {g g1 : xG} {nl nd : xN} {a d0 n : Nat} {ad : Nat → Nat} (h : tList g nl nd a d0 n ad) (h1 : g1 nl = g nl) (h2 : g1 nd = g nd) : tList g1 nl nd a d0 n ad := by
  obtain ⟨d, mc, e1, e2, e3⟩ := h
  exact ⟨d, mc, h1.trans e1, fun q => ⟨(e2 q).1, h2.trans (e2 q).2⟩, fun q => h2.trans (e3 q)⟩
theorem tKid.ext {g g1 : xG} {τ : tS} {ca : Nat → Nat} {c : Nat} (h : tKid g τ ca c) (h1 : g1 (75, c) = g (75, c)) (h2 : g1 (76, c) = g (76, c)) (h3 : g1 (77, c) = g (77, c)) : tKid g1 τ ca c := fun q => by
  obtain ⟨s, v, e1, e2, e3⟩ := h q
  exact ⟨s, v, h1.trans e1, h2.trans e2, h3.trans e3⟩
theorem tKln.ext {g g1 : xG} {τ : tS} {ka pa : Nat → Nat} {c : Nat} (h : tKln g τ ka pa c) (h1 : g1 (78, c) = g (78, c)) (h2 : g1 (79, c) = g (79, c)) (h3 : g1 (80, c) = g (80, c)) (h4 : g1 (81, c) = g (81, c)) : tKln g1 τ ka pa c := fun q => by
  obtain ⟨s, v, e1, e2, e3, e4⟩ := h q
  exact ⟨s, v, h1.trans e1, h2.trans e2, h3.trans e3, h4.trans e4⟩
theorem TN.ext {g g1 : xG} {τ : tS} (h : TN g τ) (hx : TF g g1) : TN g1 τ := ⟨fun c q => ⟨(hx.k 75 c rfl rfl).trans (h.1 c q).1, (hx.k 76 c rfl rfl).trans (h.1 c q).2.1, (hx.k 77 c rfl rfl).trans (h.1 c q).2.2⟩, fun c q => ⟨(hx.k 78 c rfl rfl).trans (h.2 c q).1, (hx.k 79 c rfl rfl).trans (h.2 c q).2.1, (hx.k 80 c rfl rfl).trans (h.2 c q).2.2.1, (hx.k 81 c rfl rfl).trans (h.2 c q).2.2.2⟩⟩
theorem TW.ext {g g1 : xG} {ht d0 : Nat} {τ : tS} {fo : Nat → Option Nat} {ca ka pa : Nat → Nat} (h : TW g ht d0 τ fo ca ka pa) (hx : TF g g1) : TW g1 ht d0 τ fo ca ka pa := by
  obtain ⟨la, lk, h1, h2, h3, h4, h5, h6⟩ := h
  exact ⟨la, lk, (hx.k 70 0 rfl rfl).trans h1, h2.ext (hx.k 71 0 rfl rfl) (hx.k 72 0 rfl rfl), h3.ext (hx.k 73 0 rfl rfl) (hx.k 74 0 rfl rfl), fun c => (h4 c).ext (hx.k 75 c rfl rfl) (hx.k 76 c rfl rfl) (hx.k 77 c rfl rfl), fun c => (h5 c).ext (hx.k 78 c rfl rfl) (hx.k 79 c rfl rfl) (hx.k 80 c rfl rfl) (hx.k 81 c rfl rfl), h6⟩
theorem sA_nc {c : Nat} (h : c < 6) : sA (ncw c) := sA_of ((by decide : ∀ c, c < 6 → (ncw c).all (fun c => Nat.blt c 128) = true) c h)
theorem sA_nk {c : Nat} (h : c < 6) : sA (nkw c) := sA_of ((by decide : ∀ c, c < 6 → (nkw c).all (fun c => Nat.blt c 128) = true) c h)
theorem ncw_own : ∀ c, c < 6 → ∀ k, k < 26 → cW (34 + k) ≠ ncw c := by decide +kernel
theorem nkw_own : ∀ c, c < 6 → ∀ k, k < 26 → cW (34 + k) ≠ nkw c := by decide +kernel

set_option maxRecDepth 100000 in
/-- one more in a list -/
theorem m_tadd {l : Launch} {s0 : State} {D : va_G} (h0 : x0 l s0 D) (g : xG) {nl nd n2 : xN} {a d0 n v : Nat} {x : xE} {ad : Nat → Nat} (hd1 : Nat.blt nl.1 1000 = true) (hd2 : Nat.blt nd.1 1000 = true) (hd3 : Nat.blt n2.1 1000 = true) (hne : nl ≠ nd) (hn2 : n2 ≠ nl) (hn3 : n2 ≠ nd) (hn0 : nl ≠ (1000, 0)) (hL : tList g nl nd a d0 n ad) (hn : n < 10) (hz : xE0 s0 g d0) (he : g n2 = some (v, x)) (hx : Cond.castable (xnm x) "java/lang/Object" ∈ lw_tbl) : xMet l s0 D yJ3_add cJ3_add 2 (some .boolean) (xr 9 1 10 330) [.ref a, .ref v] g (fun r g1 => r = some (.int 1) ∧ tList g1 nl nd a d0 (n + 1) (fun j => if j = n then v else ad j) ∧ ∀ k, k ≠ nl → k ≠ nd → g1 k = g k) := by
  obtain ⟨d, mc, h1, h2, h3⟩ := hL
  by_cases e : n = 0
  · subst e
    obtain ⟨rfl, hnd⟩ := h2 rfl
    refine (m_J3_add_B h0 g hd1 hd2 hd3 hne hn2 hn3 hn0 h1 hnd hz he hx).post ?_
    rintro r g1 ⟨d1, rfl, rfl⟩
    refine ⟨rfl, ⟨d1, _, xu_eq _ _ _, (fun q => by cases q), fun _ => by
      rw [xu_ne hne.symm, xu_eq]
      refine congrArg some (Prod.ext rfl ?_)
      show xAr (.object "java/lang/Object") 10 _ = xAr (.object "java/lang/Object") 10 _
      congr 1
      funext j
      by_cases e : j = 0
      · subst e; rfl
      · rw [if_neg (by omega)]; simp [va_up, e]⟩, fun k q1 q2 => by rw [xu_ne q1, xu_ne q2]⟩
  · refine ((m_J3_add_A h0 g hd1 hd2 hd3 hne hn2 h1 (h3 (by omega)) he hx hn (by decide)).room (rm' := xr 9 1 10 330) (Nat.le_refl _) (Nat.zero_le _) (Nat.zero_le _) (Nat.le_refl _)).post ?_
    rintro r g1 ⟨rfl, rfl⟩
    refine ⟨rfl, ⟨d, _, xu_eq _ _ _, (fun q => by cases q), fun _ => by
      rw [xu_ne hne.symm, xu_eq]
      refine congrArg some (Prod.ext rfl ?_)
      show xAr (.object "java/lang/Object") 10 _ = xAr (.object "java/lang/Object") 10 _
      congr 1
      funext j
      by_cases e : j = n
      · subst e; simp [va_up]
      · by_cases e2 : j < n
        · simp [va_up, e, e2, show j < n + 1 by omega]
        · simp [va_up, e, e2, show ¬ j < n + 1 by omega]⟩, fun k q1 q2 => by rw [xu_ne q1, xu_ne q2]⟩

set_option maxHeartbeats 4000000 in
set_option maxRecDepth 100000 in
theorem m_X3_has_c {l : Launch} {s0 : State} {D : va_G} (h0 : x0 l s0 D) (g : xG) {a d0 wa wv : Nat} {τ : tS} {ca : Nat → Nat} {w : List Nat} (hL : tList g (71, 0) (72, 0) a d0 (tnc τ) ca) (hK : ∀ c, tKid g τ ca c) (h6 : tnc τ ≤ 6) (hw : g (61, 0) = some (wa, tStr wv)) (hwv : g (62, 0) = some (wv, xAi .byte w.length (sL w))) (hA : sA w) (hl : w.length ≤ 6) (hno : ∀ c, c < tnc τ → ncw c ≠ w) : xMet l s0 D yX3_has cX3_has 3 (some .boolean) (xr 6 0 0 120) [.ref a, .ref wa] g (fun r g1 => r = some (.int 0) ∧ g1 = g) := by
  refine xMet.of h0 (by decide +kernel) rfl ?_
  intro zp ze zs zm za zb zf zc hC hr hnm
  obtain ⟨d, mc, hl1, hd0, hd1⟩ := hL
  refine x_iconst hC dX3_has_0 (q := 1) rfl (v := (0)) (by decide) ?_
  refine x_istore_n hC dX3_has_1 (q := 2) rfl rfl ?_
  refine x_loop (S := (fun i : Nat => ((0 : Nat), (0 : Nat), g, ([some (.ref a), some (.ref wa), some (.int (nI i))] : xL), ([] : List Value)))) (Inv := fun i => i ≤ tnc τ) (μ := fun i => tnc τ - i) ?_ 0 (Nat.zero_le _)
  intro i hi ih
  dsimp only at hi ih ⊢
  refine x_iload_n hC dX3_has_2 (q := 3) rfl rfl ?_
  refine x_aloadr_n hC dX3_has_3 (q := 4) rfl rfl ?_
  refine x_callV hC xv_X3_19 dX3_has_4 (q := 7) rfl rfl (m_J3_size h0 g hl1) (nn := (71, 0)) hl1 rfl rfl (Nat.le_of_ble_eq_true rfl) ⟨(Nat.le_of_ble_eq_true rfl), (Nat.le_of_ble_eq_true rfl)⟩ ⟨(Nat.le_of_ble_eq_true rfl), (Nat.le_of_ble_eq_true rfl)⟩ (fun v g1 hp => ?_)
  obtain ⟨rfl, hg1⟩ := hp
  replace hg1 := hg1.symm
  subst hg1
  refine x_icmp_ge hC dX3_has_7 (q := 10) rfl (tgt := 36) rfl (fun h7 => ?_) (fun h7 => ?_)
  · refine x_iconst hC dX3_has_36 (q := 37) rfl (v := (0)) (by decide) ?_
    exact x_zret hC hr rfl dX3_has_37 (Nat.le_of_ble_eq_true rfl) (Nat.le_of_ble_eq_true rfl) ⟨rfl, rfl⟩
  have hj2 : i < tnc τ := Nat.lt_of_not_le (fun q => h7 (nI_le q (by omega)))
  obtain ⟨s, v, e1, e2, e3⟩ := hK i hj2
  refine x_inj (fun hinj => ?_)
  have hab : s = wa → False := fun q => absurd (congrArg Prod.fst (hinj _ _ _ _ _ (show 76 < 1000 by decide) (show 61 < 1000 by decide) (q ▸ e2) hw)) (fun r => by cases r)
  refine x_aloadr_n hC dX3_has_10 (q := 11) rfl rfl ?_
  refine x_iload_n hC dX3_has_11 (q := 12) rfl rfl ?_
  refine x_callV hC xv_X3_23 dX3_has_12 (q := 15) rfl rfl (m_J3_get h0 g hl1 (hd1 (by omega)) rfl rfl hj2 (by omega) (by decide)) (nn := (71, 0)) hl1 rfl rfl (Nat.le_of_ble_eq_true rfl) ⟨(Nat.le_of_ble_eq_true rfl), (Nat.le_of_ble_eq_true rfl)⟩ ⟨(Nat.le_of_ble_eq_true rfl), (Nat.le_of_ble_eq_true rfl)⟩ (fun v g1 hp => ?_)
  rw [if_pos hj2] at hp
  obtain ⟨rfl, hg1⟩ := hp
  replace hg1 := hg1.symm
  subst hg1
  refine x_castY hC (ci := 5) q607 q2167 dX3_has_15 (q := 18) rfl (n := (75, i)) e1 ?_
  refine x_get hC xf_X3_29_5 dX3_has_18 (q := 21) rfl (n := (75, i)) e1 rfl ?_
  refine x_aloadr_n hC dX3_has_21 (q := 22) rfl rfl ?_
  refine x_callV hC xv_X3_33 dX3_has_22 (q := 25) rfl rfl (m_J6_equals h0 g e2 e3 hw hwv (by have := hl; show (ncw i).length < _; exact (by decide : 2 < 2 ^ 31)) (by omega) (fun q => (hab q).elim)) (nn := (76, i)) e2 rfl rfl (Nat.le_of_ble_eq_true rfl) ⟨(Nat.le_of_ble_eq_true rfl), (Nat.le_of_ble_eq_true rfl)⟩ ⟨(Nat.le_of_ble_eq_true rfl), (Nat.le_of_ble_eq_true rfl)⟩ (fun v g1 hp => ?_)
  rw [if_neg (fun q => hno i hj2 ((sEqs_sL (sA_nc (by omega)) hA).mp q))] at hp
  obtain ⟨rfl, hg1⟩ := hp
  replace hg1 := hg1.symm
  subst hg1
  refine x_if_eq hC dX3_has_25 (q := 28) rfl (tgt := 30) rfl (fun h25 => ?_) (fun h25 => ?_)
  · refine x_iinc hC dX3_has_30 (q := 33) rfl rfl (v := nI (i + 1)) (nI_1 i) ?_
    refine x_goto hC dX3_has_33 (tgt := 2) rfl ?_
    exact ih (i + 1) (by (try dsimp only); omega) (by (try dsimp only); omega)
  · exact absurd rfl h25

set_option maxHeartbeats 4000000 in
set_option maxRecDepth 100000 in
theorem m_X3_has_k {l : Launch} {s0 : State} {D : va_G} (h0 : x0 l s0 D) (g : xG) {a d0 wa wv : Nat} {τ : tS} {ka pa : Nat → Nat} {w : List Nat} (hL : tList g (73, 0) (74, 0) a d0 (tnk τ) ka) (hK : ∀ c, tKln g τ ka pa c) (h6 : tnk τ ≤ 6) (hw : g (61, 0) = some (wa, tStr wv)) (hwv : g (62, 0) = some (wv, xAi .byte w.length (sL w))) (hA : sA w) (hl : w.length ≤ 6) (hno : ∀ c, c < tnk τ → nkw c ≠ w) : xMet l s0 D yX3_has cX3_has 3 (some .boolean) (xr 6 0 0 120) [.ref a, .ref wa] g (fun r g1 => r = some (.int 0) ∧ g1 = g) := by
  refine xMet.of h0 (by decide +kernel) rfl ?_
  intro zp ze zs zm za zb zf zc hC hr hnm
  obtain ⟨d, mc, hl1, hd0, hd1⟩ := hL
  refine x_iconst hC dX3_has_0 (q := 1) rfl (v := (0)) (by decide) ?_
  refine x_istore_n hC dX3_has_1 (q := 2) rfl rfl ?_
  refine x_loop (S := (fun i : Nat => ((0 : Nat), (0 : Nat), g, ([some (.ref a), some (.ref wa), some (.int (nI i))] : xL), ([] : List Value)))) (Inv := fun i => i ≤ tnk τ) (μ := fun i => tnk τ - i) ?_ 0 (Nat.zero_le _)
  intro i hi ih
  dsimp only at hi ih ⊢
  refine x_iload_n hC dX3_has_2 (q := 3) rfl rfl ?_
  refine x_aloadr_n hC dX3_has_3 (q := 4) rfl rfl ?_
  refine x_callV hC xv_X3_19 dX3_has_4 (q := 7) rfl rfl (m_J3_size h0 g hl1) (nn := (73, 0)) hl1 rfl rfl (Nat.le_of_ble_eq_true rfl) ⟨(Nat.le_of_ble_eq_true rfl), (Nat.le_of_ble_eq_true rfl)⟩ ⟨(Nat.le_of_ble_eq_true rfl), (Nat.le_of_ble_eq_true rfl)⟩ (fun v g1 hp => ?_)
  obtain ⟨rfl, hg1⟩ := hp
  replace hg1 := hg1.symm
  subst hg1
  refine x_icmp_ge hC dX3_has_7 (q := 10) rfl (tgt := 36) rfl (fun h7 => ?_) (fun h7 => ?_)
  · refine x_iconst hC dX3_has_36 (q := 37) rfl (v := (0)) (by decide) ?_
    exact x_zret hC hr rfl dX3_has_37 (Nat.le_of_ble_eq_true rfl) (Nat.le_of_ble_eq_true rfl) ⟨rfl, rfl⟩
  have hj2 : i < tnk τ := Nat.lt_of_not_le (fun q => h7 (nI_le q (by omega)))
  obtain ⟨s, v, e1, e0, e2, e3⟩ := hK i hj2
  refine x_inj (fun hinj => ?_)
  have hab : s = wa → False := fun q => absurd (congrArg Prod.fst (hinj _ _ _ _ _ (show 80 < 1000 by decide) (show 61 < 1000 by decide) (q ▸ e2) hw)) (fun r => by cases r)
  refine x_aloadr_n hC dX3_has_10 (q := 11) rfl rfl ?_
  refine x_iload_n hC dX3_has_11 (q := 12) rfl rfl ?_
  refine x_callV hC xv_X3_23 dX3_has_12 (q := 15) rfl rfl (m_J3_get h0 g hl1 (hd1 (by omega)) rfl rfl hj2 (by omega) (by decide)) (nn := (73, 0)) hl1 rfl rfl (Nat.le_of_ble_eq_true rfl) ⟨(Nat.le_of_ble_eq_true rfl), (Nat.le_of_ble_eq_true rfl)⟩ ⟨(Nat.le_of_ble_eq_true rfl), (Nat.le_of_ble_eq_true rfl)⟩ (fun v g1 hp => ?_)
  rw [if_pos hj2] at hp
  obtain ⟨rfl, hg1⟩ := hp
  replace hg1 := hg1.symm
  subst hg1
  refine x_castY hC (ci := 6) q607 q2168 dX3_has_15 (q := 18) rfl (n := (78, i)) e1 ?_
  refine x_get hC xf_X3_29_6 dX3_has_18 (q := 21) rfl (n := (78, i)) e1 rfl ?_
  refine x_aloadr_n hC dX3_has_21 (q := 22) rfl rfl ?_
  refine x_callV hC xv_X3_33 dX3_has_22 (q := 25) rfl rfl (m_J6_equals h0 g e2 e3 hw hwv (by have := hl; show (nkw i).length < _; exact (by decide : 2 < 2 ^ 31)) (by omega) (fun q => (hab q).elim)) (nn := (80, i)) e2 rfl rfl (Nat.le_of_ble_eq_true rfl) ⟨(Nat.le_of_ble_eq_true rfl), (Nat.le_of_ble_eq_true rfl)⟩ ⟨(Nat.le_of_ble_eq_true rfl), (Nat.le_of_ble_eq_true rfl)⟩ (fun v g1 hp => ?_)
  rw [if_neg (fun q => hno i hj2 ((sEqs_sL (sA_nk (by omega)) hA).mp q))] at hp
  obtain ⟨rfl, hg1⟩ := hp
  replace hg1 := hg1.symm
  subst hg1
  refine x_if_eq hC dX3_has_25 (q := 28) rfl (tgt := 30) rfl (fun h25 => ?_) (fun h25 => ?_)
  · refine x_iinc hC dX3_has_30 (q := 33) rfl rfl (v := nI (i + 1)) (nI_1 i) ?_
    refine x_goto hC dX3_has_33 (tgt := 2) rfl ?_
    exact ih (i + 1) (by (try dsimp only); omega) (by (try dsimp only); omega)
  · exact absurd rfl h25

set_option maxHeartbeats 4000000 in
set_option maxRecDepth 100000 in
theorem m_X3_knows {l : Launch} {s0 : State} {D : va_G} (h0 : x0 l s0 D) (g : xG) {ht d0 : Nat} {τ : tS} {fo : Nat → Option Nat} {ca ka pa : Nat → Nat} (hT : TW g ht d0 τ fo ca ka pa) {wa wv : Nat} {w : List Nat} (hw : g (61, 0) = some (wa, tStr wv)) (hwv : g (62, 0) = some (wv, xAi .byte w.length (sL w))) (hA : sA w) (hl : w.length ≤ 6) (hno1 : ∀ c, c < tnc τ → ncw c ≠ w) (hno2 : ∀ c, c < tnk τ → nkw c ≠ w) : xMet l s0 D yX3_knows cX3_knows 2 (some .boolean) (xr 7 0 0 150) [.ref ht, .ref wa] g (fun r g1 => r = some (.int 0) ∧ g1 = g) := by
  refine xMet.of h0 (by decide +kernel) rfl ?_
  intro zp ze zs zm za zb zf zc hC hr hnm
  obtain ⟨la, lk, hT1, hT2, hT3, hT4, hT5, hT6, hT7⟩ := hT
  have hT2b := hT2
  have hT3b := hT3
  obtain ⟨dc, mc, hT8, -⟩ := hT2b
  obtain ⟨dk, mk, hT9, -⟩ := hT3b
  refine x_aloadr_n hC dX3_knows_0 (q := 1) rfl rfl ?_
  refine x_get hC xf_X3_10_2 dX3_knows_1 (q := 4) rfl (n := (70, 0)) hT1 rfl ?_
  refine x_aloadr_n hC dX3_knows_4 (q := 5) rfl rfl ?_
  refine x_callS hC xv_X3_39 dX3_knows_5 (q := 8) rfl rfl (m_X3_has_c h0 g hT2 hT4 hT6 hw hwv hA hl hno1) rfl (Nat.le_of_ble_eq_true rfl) ⟨(Nat.le_of_ble_eq_true rfl), (Nat.le_of_ble_eq_true rfl)⟩ ⟨(Nat.le_of_ble_eq_true rfl), (Nat.le_of_ble_eq_true rfl)⟩ (fun v g1 hp => ?_)
  obtain ⟨rfl, hg1⟩ := hp
  replace hg1 := hg1.symm
  subst hg1
  refine x_if_ne hC dX3_knows_8 (q := 11) rfl (tgt := 22) rfl (fun h8 => ?_) (fun h8 => ?_)
  · exact absurd rfl h8
  refine x_aloadr_n hC dX3_knows_11 (q := 12) rfl rfl ?_
  refine x_get hC xf_X3_16_2 dX3_knows_12 (q := 15) rfl (n := (70, 0)) hT1 rfl ?_
  refine x_aloadr_n hC dX3_knows_15 (q := 16) rfl rfl ?_
  refine x_callS hC xv_X3_39 dX3_knows_16 (q := 19) rfl rfl (m_X3_has_k h0 g hT3 hT5 (by omega) hw hwv hA hl hno2) rfl (Nat.le_of_ble_eq_true rfl) ⟨(Nat.le_of_ble_eq_true rfl), (Nat.le_of_ble_eq_true rfl)⟩ ⟨(Nat.le_of_ble_eq_true rfl), (Nat.le_of_ble_eq_true rfl)⟩ (fun v g1 hp => ?_)
  obtain ⟨rfl, hg1⟩ := hp
  replace hg1 := hg1.symm
  subst hg1
  refine x_if_eq hC dX3_knows_19 (q := 22) rfl (tgt := 26) rfl (fun h19 => ?_) (fun h19 => ?_)
  · refine x_iconst hC dX3_knows_26 (q := 27) rfl (v := (0)) (by decide) ?_
    exact x_zret hC hr rfl dX3_knows_27 (Nat.le_of_ble_eq_true rfl) (Nat.le_of_ble_eq_true rfl) ⟨rfl, rfl⟩
  · exact absurd rfl h19

set_option maxHeartbeats 4000000 in
set_option maxRecDepth 100000 in
theorem m_X5_name {l : Launch} {s0 : State} {D : va_G} (h0 : x0 l s0 D) (g : xG) {sc : Nat} {Z : Nat × Nat × Nat} {tx : List Nat} {A V B : Nat → Nat} (hE : PE g Z tx A V B) (hS : KS0 s0 A V B) {fr to op : Nat} {sn : Bool} {w : List Nat} {ts : List Tk} (hq : PSt g sc Z tx fr to op sn ((1, w) :: ts)) (hown : ∀ k, k < 26 → cW (34 + k) ≠ w) {cz sz : Nat} (hz : sR sn cz sz)  : xMet l s0 D yX5_name cX5_name 1 (some (.object "java/lang/String")) ((xr 7 cz sz 240)) [.ref sc] g (fun r g1 => ∃ wa wv, r = some (.ref wa) ∧ PX g g1 ∧ PSt g1 sc Z tx fr to op true ((1, w) :: ts) ∧ g1 (61, 0) = some (wa, tStr wv) ∧ g1 (62, 0) = some (wv, xAi .byte w.length (sL w)) ∧ sA w ∧ w.length ≤ 6) := by
  refine xMet.of h0 (by decide +kernel) rfl ?_
  intro zp ze zs zm za zb zf zc hC hr hnm
  obtain ⟨fs0, hc⟩ := hq.cell
  refine x_aloadr_n hC dX5_name_0 (q := 1) rfl rfl ?_
  refine x_callV hC xv_X5_86 dX5_name_1 (q := 4) rfl rfl (m_X5_see h0 g hE hq hz) (nn := (60, 0)) hc rfl rfl (Nat.le_of_ble_eq_true rfl) ⟨(Nat.le_of_ble_eq_true rfl), (Nat.le_of_ble_eq_true rfl)⟩ ⟨(by (try dsimp only); omega), (by (try dsimp only); omega)⟩ (fun v g1 hp => ?_)
  obtain ⟨rfl, hx, hs1⟩ := hp
  obtain ⟨at0, bd, pl, nb, sg, wd, hc, hat, hb1, hb2, hpl, htk⟩ := hs1.wh
  obtain ⟨q, -⟩ | ⟨t, ts1, q, h1, h2, h3⟩ := htk
  · cases q
  cases q
  obtain ⟨wa, wv, rfl, e1, e2, e3, e4⟩ := h3.1 rfl
  refine x_iconst hC dX5_name_4 (q := 5) rfl (v := (1)) (by decide) ?_
  refine x_icmp_ne hC dX5_name_5 (q := 8) rfl (tgt := 18) rfl (fun h5 => ?_) (fun h5 => ?_)
  · exact absurd rfl h5
  refine x_aloadr_n hC dX5_name_8 (q := 9) rfl rfl ?_
  refine x_get hC xf_X5_67_4 dX5_name_9 (q := 12) rfl (n := (60, 0)) hc rfl ?_
  refine x_callSN hC xv_X5_75 dX5_name_12 (q := 15) rfl rfl (m_X2_isOwn h0 _ hS (hE.px hx).2.2.2.2 (n := (61, 0)) (nv := (62, 0)) rfl e1 e2 e3 e4 hown) rfl (Nat.le_of_ble_eq_true rfl) ⟨(Nat.le_of_ble_eq_true rfl), (Nat.le_of_ble_eq_true rfl)⟩ ⟨(by (try dsimp only); omega), (by (try dsimp only); omega)⟩ (fun v g1 hp => ?_)
  obtain ⟨rfl, hg1⟩ := hp
  replace hg1 := hg1.symm
  subst hg1
  refine x_if_eq hC dX5_name_15 (q := 18) rfl (tgt := 23) rfl (fun h15 => ?_) (fun h15 => ?_)
  · refine x_aloadr_n hC dX5_name_23 (q := 24) rfl rfl ?_
    refine x_get hC xf_X5_67_4 dX5_name_24 (q := 27) rfl (n := (60, 0)) hc rfl ?_
    exact x_aret hC hr (Or.inl ⟨_, rfl⟩) (Or.inr ⟨_, rfl⟩) dX5_name_27 (by (try dsimp only); omega) (by (try dsimp only); omega) ⟨wa, wv, rfl, hx, hs1, e1, e2, e3, e4⟩
  · exact absurd rfl h15

set_option maxHeartbeats 4000000 in
set_option maxRecDepth 100000 in
theorem m_X5_newName {l : Launch} {s0 : State} {D : va_G} (h0 : x0 l s0 D) (g : xG) {sc : Nat} {Z : Nat × Nat × Nat} {tx : List Nat} {A V B : Nat → Nat} (hE : PE g Z tx A V B) (hS : KS0 s0 A V B) {d0 fr to op : Nat} {sn : Bool} {w : List Nat} {ts : List Tk} (hq : PSt g sc Z tx fr to op sn ((1, w) :: ts)) (hown : ∀ k, k < 26 → cW (34 + k) ≠ w) {cz sz : Nat} (hz : sR sn cz sz) {τ : tS} {fo : Nat → Option Nat} {ca ka pa : Nat → Nat} (hT : TW g Z.2.1 d0 τ fo ca ka pa) (hno1 : ∀ c, c < tnc τ → ncw c ≠ w) (hno2 : ∀ c, c < tnk τ → nkw c ≠ w) : xMet l s0 D yX5_newName cX5_newName 2 (some (.object "java/lang/String")) ((xr 8 cz sz 270)) [.ref sc] g (fun r g1 => ∃ wa wv, r = some (.ref wa) ∧ PX g g1 ∧ PSt g1 sc Z tx fr to op false ts ∧ g1 (61, 0) = some (wa, tStr wv) ∧ g1 (62, 0) = some (wv, xAi .byte w.length (sL w)) ∧ sA w ∧ w.length ≤ 6) := by
  refine xMet.of h0 (by decide +kernel) rfl ?_
  intro zp ze zs zm za zb zf zc hC hr hnm
  obtain ⟨fs0, hc⟩ := hq.cell
  refine x_aloadr_n hC dX5_newName_0 (q := 1) rfl rfl ?_
  refine x_callV hC xv_X5_112 dX5_newName_1 (q := 4) rfl rfl (m_X5_name h0 g hE hS hq hown hz) (nn := (60, 0)) hc rfl rfl (Nat.le_of_ble_eq_true rfl) ⟨(Nat.le_of_ble_eq_true rfl), (Nat.le_of_ble_eq_true rfl)⟩ ⟨(by (try dsimp only); omega), (by (try dsimp only); omega)⟩ (fun v g1 hp => ?_)
  obtain ⟨wa0, wv0, rfl, hx, hs1, y1, y2, y3, y4⟩ := hp
  obtain ⟨at0, bd, pl, nb, sg, wd, hc, hat, hb1, hb2, hpl, htk⟩ := hs1.wh
  obtain ⟨q, -⟩ | ⟨t, ts1, q, h1, h2, h3⟩ := htk
  · cases q
  cases q
  obtain ⟨wa, wv, rfl, e1, e2, e3, e4⟩ := h3.1 rfl
  obtain rfl : wa = wa0 := by rw [e1] at y1; injection y1 with y5; injection y5
  have hT1 := hT.ext (TF.px hx)
  have hTb := hT1
  obtain ⟨la, lk, hT2, -⟩ := hTb
  refine x_astorer_n hC dX5_newName_4 (q := 5) rfl rfl ?_
  refine x_aloadr_n hC dX5_newName_5 (q := 6) rfl rfl ?_
  refine x_get hC xf_X5_18_4 dX5_newName_6 (q := 9) rfl (n := (60, 0)) hc rfl ?_
  refine x_aloadr_n hC dX5_newName_9 (q := 10) rfl rfl ?_
  refine x_callV hC xv_X5_116 dX5_newName_10 (q := 13) rfl rfl (m_X3_knows h0 _ hT1 e1 e2 e3 e4 hno1 hno2) (nn := (70, 0)) hT2 rfl rfl (Nat.le_of_ble_eq_true rfl) ⟨(Nat.le_of_ble_eq_true rfl), (Nat.le_of_ble_eq_true rfl)⟩ ⟨(by (try dsimp only); omega), (by (try dsimp only); omega)⟩ (fun v g1 hp => ?_)
  obtain ⟨rfl, hg1⟩ := hp
  replace hg1 := hg1.symm
  subst hg1
  refine x_if_eq hC dX5_newName_13 (q := 16) rfl (tgt := 29) rfl (fun h13 => ?_) (fun h13 => ?_)
  · refine x_aloadr_n hC dX5_newName_29 (q := 30) rfl rfl ?_
    refine x_iconst hC dX5_newName_30 (q := 31) rfl (v := (0)) (by decide) ?_
    refine x_put hC (n := (60, 0)) xf_X5_29_4 xd_4 rfl dX5_newName_31 (q := 34) rfl hc rfl rfl rfl ?_
    refine x_aloadr_n hC dX5_newName_34 (q := 35) rfl rfl ?_
    exact x_aret hC hr (Or.inl ⟨_, rfl⟩) (Or.inr ⟨_, rfl⟩) dX5_newName_35 (by (try dsimp only); omega) (by (try dsimp only); omega) ⟨wa, wv, rfl, hx.u60 _, PSt.nx (t := (1, w)) (op2 := 0) (fr2 := 0) (to2 := 0) hat hb1 hb2 hpl h2, by rw [xu_ne (by decide)]; exact e1, by rw [xu_ne (by decide)]; exact e2, e3, e4⟩
  · exact absurd rfl h13

set_option maxHeartbeats 4000000 in
set_option maxRecDepth 100000 in
theorem m_X5_space {l : Launch} {s0 : State} {D : va_G} (h0 : x0 l s0 D) (g : xG) (sc : Nat) {x y : Nat} (hx : x < 100000) (hy : y < 100000) (hxy : x ≠ y) (z : Int32) : xMet l s0 D yX5_space cX5_space 4 none (xr 0 0 0 0) [.ref sc, .int (nI x), .int (nI y), .int z] g (fun r g1 => r = none ∧ g1 = g) := by
  refine xMet.of h0 (by decide +kernel) rfl ?_
  intro zp ze zs zm za zb zf zc hC hr hnm
  refine x_iload_n hC dX5_space_0 (q := 1) rfl rfl ?_
  refine x_iload_n hC dX5_space_1 (q := 2) rfl rfl ?_
  refine x_icmp_ne hC dX5_space_2 (q := 5) rfl (tgt := 16) rfl (fun h2 => ?_) (fun h2 => ?_)
  · exact x_vret hC hr dX5_space_16 (Nat.le_of_ble_eq_true rfl) (Nat.le_of_ble_eq_true rfl) ⟨rfl, rfl⟩
  · exact absurd h2 (fun q => hxy ((nI_eq (by omega) (by omega)).mp q))

set_option maxHeartbeats 4000000 in
set_option maxRecDepth 100000 in
theorem m_X7_init_c {l : Launch} {s0 : State} {D : va_G} (h0 : x0 l s0 D) (g : xG) {n : xN} {a s k : Nat} (hd : Nat.blt n.1 1000 = true) (hn : g n = some (a, xO 5 [.null, .int 0, .int 0, .int 0, .int 0, .int 0, .int 0, .null, .int 0])) : xMet l s0 D yX7_init cX7_init 3 none (xr 1 0 0 25) [.ref a, .ref s, .int (nI k)] g (fun r g1 => r = none ∧ g1 = xu g n (some (a, xO 5 [.ref s, .int (nI k), .int 0, .int 0, .int 0, .int 0, .int 0, .null, .int 0]))) := by
  refine xMet.of h0 (by decide +kernel) rfl ?_
  intro zp ze zs zm za zb zf zc hC hr hnm
  refine x_aloadr_n hC dX7_init_0 (q := 1) rfl rfl ?_
  refine x_objInit hC q615 q124 q125 dX7_init_1 (q := 4) rfl (by decide) (Nat.le_of_ble_eq_true rfl) (Nat.le_of_ble_eq_true rfl) ?_
  refine x_aloadr_n hC dX7_init_4 (q := 5) rfl rfl ?_
  refine x_aloadr_n hC dX7_init_5 (q := 6) rfl rfl ?_
  refine x_putF hC hnm (n := n) xff_X7_7_5 xd_5 hd dX7_init_6 (q := 9) rfl hn rfl rfl rfl ?_
  refine x_aloadr_n hC dX7_init_9 (q := 10) rfl rfl ?_
  refine x_iload_n hC dX7_init_10 (q := 11) rfl rfl ?_
  refine x_putF hC hnm (n := n) xff_X7_13_5 xd_5 hd dX7_init_11 (q := 14) rfl (xu_eq _ _ _) rfl rfl rfl ?_
  rw [xu_xu]
  exact x_vret hC hr dX7_init_14 (Nat.le_of_ble_eq_true rfl) (Nat.le_of_ble_eq_true rfl) ⟨rfl, rfl⟩

set_option maxHeartbeats 4000000 in
set_option maxRecDepth 100000 in
theorem m_X8_init {l : Launch} {s0 : State} {D : va_G} (h0 : x0 l s0 D) (g : xG) {n : xN} {a s k : Nat} (hd : Nat.blt n.1 1000 = true) (hn : g n = some (a, xO 5 [.null, .int 0, .int 0, .int 0, .int 0, .int 0, .int 0, .null, .int 0])) : xMet l s0 D yX8_init cX8_init 3 none (xr 2 0 0 50) [.ref a, .ref s, .int (nI k)] g (fun r g1 => r = none ∧ g1 = xu g n (some (a, xO 5 [.ref s, .int (nI k), .int 0, .int 0, .int (-1), .int (-1), .int 0, .null, .int 0]))) := by
  refine xMet.of h0 (by decide +kernel) rfl ?_
  intro zp ze zs zm za zb zf zc hC hr hnm
  refine x_aloadr_n hC dX8_init_0 (q := 1) rfl rfl ?_
  refine x_aloadr_n hC dX8_init_1 (q := 2) rfl rfl ?_
  refine x_iload_n hC dX8_init_2 (q := 3) rfl rfl ?_
  refine x_callI hC xv_X8_3 dX8_init_3 (q := 6) rfl rfl (m_X7_init_c h0 g hd hn) rfl (Nat.le_of_ble_eq_true rfl) ⟨(Nat.le_of_ble_eq_true rfl), (Nat.le_of_ble_eq_true rfl)⟩ ⟨(Nat.le_of_ble_eq_true rfl), (Nat.le_of_ble_eq_true rfl)⟩ (fun v g1 hp => ?_)
  obtain ⟨rfl, hg1⟩ := hp
  replace hg1 := hg1.symm
  subst hg1
  refine x_aloadr_n hC dX8_init_6 (q := 7) rfl rfl ?_
  refine x_iconst hC dX8_init_7 (q := 8) rfl (v := (-1)) (by decide) ?_
  refine x_put hC (n := n) xf_X8_9_5 xd_5 hd dX8_init_8 (q := 11) rfl (xu_eq _ _ _) rfl rfl rfl ?_
  rw [xu_xu]
  refine x_aloadr_n hC dX8_init_11 (q := 12) rfl rfl ?_
  refine x_iconst hC dX8_init_12 (q := 13) rfl (v := (-1)) (by decide) ?_
  refine x_put hC (n := n) xf_X8_15_5 xd_5 hd dX8_init_13 (q := 16) rfl (xu_eq _ _ _) rfl rfl rfl ?_
  rw [xu_xu]
  exact x_vret hC hr dX8_init_16 (Nat.le_of_ble_eq_true rfl) (Nat.le_of_ble_eq_true rfl) ⟨rfl, rfl⟩

set_option maxHeartbeats 4000000 in
set_option maxRecDepth 100000 in
theorem m_X7_init_k {l : Launch} {s0 : State} {D : va_G} (h0 : x0 l s0 D) (g : xG) {n : xN} {a s k : Nat} (hd : Nat.blt n.1 1000 = true) (hn : g n = some (a, xO 6 [.null, .int 0, .int 0, .int 0, .null])) : xMet l s0 D yX7_init cX7_init 3 none (xr 1 0 0 25) [.ref a, .ref s, .int (nI k)] g (fun r g1 => r = none ∧ g1 = xu g n (some (a, xO 6 [.ref s, .int (nI k), .int 0, .int 0, .null]))) := by
  refine xMet.of h0 (by decide +kernel) rfl ?_
  intro zp ze zs zm za zb zf zc hC hr hnm
  refine x_aloadr_n hC dX7_init_0 (q := 1) rfl rfl ?_
  refine x_objInit hC q615 q124 q125 dX7_init_1 (q := 4) rfl (by decide) (Nat.le_of_ble_eq_true rfl) (Nat.le_of_ble_eq_true rfl) ?_
  refine x_aloadr_n hC dX7_init_4 (q := 5) rfl rfl ?_
  refine x_aloadr_n hC dX7_init_5 (q := 6) rfl rfl ?_
  refine x_putF hC hnm (n := n) xff_X7_7_6 xd_6 hd dX7_init_6 (q := 9) rfl hn rfl rfl rfl ?_
  refine x_aloadr_n hC dX7_init_9 (q := 10) rfl rfl ?_
  refine x_iload_n hC dX7_init_10 (q := 11) rfl rfl ?_
  refine x_putF hC hnm (n := n) xff_X7_13_6 xd_6 hd dX7_init_11 (q := 14) rfl (xu_eq _ _ _) rfl rfl rfl ?_
  rw [xu_xu]
  exact x_vret hC hr dX7_init_14 (Nat.le_of_ble_eq_true rfl) (Nat.le_of_ble_eq_true rfl) ⟨rfl, rfl⟩

theorem xu_c {g : xG} {n k : xN} (h : n ≠ k) (x y : Option (Nat × xE)) : xu (xu g n x) k y = xu (xu g k y) n x := by
  funext i
  unfold xu
  by_cases e : i = n
  · subst e; simp [h]
  · simp [e]

set_option maxHeartbeats 4000000 in
set_option maxRecDepth 100000 in
theorem m_X9_init {l : Launch} {s0 : State} {D : va_G} (h0 : x0 l s0 D) (g : xG) {n np : xN} {a s k : Nat} (hd : Nat.blt n.1 1000 = true) (hdp : Nat.blt np.1 1000 = true) (hn : g n = some (a, xO 6 [.null, .int 0, .int 0, .int 0, .null])) (hp0 : g np = none) : xMet l s0 D yX9_init cX9_init 3 none (xr 2 1 6 50) [.ref a, .ref s, .int (nI k)] g (fun r g1 => ∃ pa, r = none ∧ g1 = xu (xu g np (some (pa, xAr (.object "KilnBench$Child") 6 (fun _ => none)))) n (some (a, xO 6 [.ref s, .int (nI k), .int 0, .int (-1), .ref pa]))) := by
  refine xMet.of h0 (by decide +kernel) rfl ?_
  intro zp ze zs zm za zb zf zc hC hr hnm
  have hne : n ≠ np := fun q => by rw [q, hp0] at hn; cases hn
  refine x_aloadr_n hC dX9_init_0 (q := 1) rfl rfl ?_
  refine x_aloadr_n hC dX9_init_1 (q := 2) rfl rfl ?_
  refine x_iload_n hC dX9_init_2 (q := 3) rfl rfl ?_
  refine x_callI hC xv_X9_3 dX9_init_3 (q := 6) rfl rfl (m_X7_init_k h0 g hd hn) rfl (Nat.le_of_ble_eq_true rfl) ⟨(Nat.le_of_ble_eq_true rfl), (Nat.le_of_ble_eq_true rfl)⟩ ⟨(Nat.le_of_ble_eq_true rfl), (Nat.le_of_ble_eq_true rfl)⟩ (fun v g1 hp => ?_)
  obtain ⟨rfl, hg1⟩ := hp
  replace hg1 := hg1.symm
  subst hg1
  refine x_aloadr_n hC dX9_init_6 (q := 7) rfl rfl ?_
  refine x_iconst hC dX9_init_7 (q := 8) rfl (v := (-1)) (by decide) ?_
  refine x_put hC (n := n) xf_X9_9_6 xd_6 hd dX9_init_8 (q := 11) rfl (xu_eq _ _ _) rfl rfl rfl ?_
  rw [xu_xu]
  refine x_aloadr_n hC dX9_init_11 (q := 12) rfl rfl ?_
  refine x_bipush hC dX9_init_12 (q := 14) rfl (v := (6)) (by decide) ?_
  refine x_anew hC (N := 6) np q760 q761 dX9_init_14 (q := 17) rfl hdp (by rw [xu_ne hne.symm]; exact hp0) rfl (by decide) (Nat.le_of_ble_eq_true rfl) (Nat.le_of_ble_eq_true rfl) (fun a_14 => ?_)
  refine x_putF hC hnm (n := n) xff_X9_17_6 xd_6 hd dX9_init_17 (q := 20) rfl (by rw [xu_ne hne, xu_eq]) rfl rfl rfl ?_
  exact x_vret hC hr dX9_init_20 (Nat.le_of_ble_eq_true rfl) (Nat.le_of_ble_eq_true rfl) ⟨_, rfl, by rw [xu_c hne, xu_xu]; rfl⟩
