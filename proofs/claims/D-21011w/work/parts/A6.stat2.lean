/-! statements, one by one -/
def tFm (g : xG) (N j : Nat) (o : Option Nat) (f : Option (aEnv → Int64)) : Prop := (o = none ∧ f = none) ∨ ∃ a fn, o = some a ∧ f = some fn ∧ aR (fW 0 N g) 6 (Nat.ble 2 j) a fn
/-- what has been read: the town τ with its formulas F; names (200, i) from N on are free -/
def TI (s0 : State) (g : xG) (Z : Nat × Nat × Nat) (tx : List Nat) (A V B : Nat → Nat) (d0 N : Nat) (τ : tS) (F : Nat → Option (aEnv → Int64)) : Prop := PE g Z tx A V B ∧ KS0 s0 A V B ∧ xE0 s0 g d0 ∧ FR N g ∧ TN g τ ∧ ∃ fo ca ka pa, TW g Z.2.1 d0 τ fo ca ka pa ∧ ∀ j, j < 4 → tFm g N j (fo j) (F j)
def rdP (n : xN) : Bool := tokP n || ((Nat.ble 70 n.1 && Nat.ble n.1 81) || Nat.beq n.1 200)
theorem rdP_kid {c : Nat} {n : xN} (h : rdP n = false) : kidP c n = false := by
  unfold rdP at h
  rw [Bool.or_eq_false_iff, Bool.or_eq_false_iff, Bool.and_eq_false_iff] at h
  unfold kidP
  rw [h.1, Bool.false_or]
  have h1 : n.1 < 70 ∨ 81 < n.1 := by
    rcases h.2.1 with e | e
    · exact Or.inl (Nat.lt_of_not_le (fun q => by rw [Nat.ble_eq_true_of_le q] at e; cases e))
    · exact Or.inr (Nat.lt_of_not_le (fun q => by rw [Nat.ble_eq_true_of_le q] at e; cases e))
  rw [Bool.or_eq_false_iff, Bool.or_eq_false_iff, Bool.and_eq_false_iff, Bool.and_eq_false_iff]
  refine ⟨Bool.eq_false_iff.mpr (fun q => by have := Nat.eq_of_beq_eq_true q; omega), Bool.eq_false_iff.mpr (fun q => by have := Nat.eq_of_beq_eq_true q; omega), Or.inl ?_⟩
  by_cases e : 75 ≤ n.1
  · exact Or.inr (Bool.eq_false_iff.mpr (fun q => by have := Nat.le_of_ble_eq_true q; omega))
  · exact Or.inl (Bool.eq_false_iff.mpr (fun q => by have := Nat.le_of_ble_eq_true q; omega))
theorem rdP_kln {c : Nat} {n : xN} (h : rdP n = false) : klnP c n = false := by
  unfold rdP at h
  rw [Bool.or_eq_false_iff, Bool.or_eq_false_iff, Bool.and_eq_false_iff] at h
  unfold klnP
  rw [h.1, Bool.false_or]
  have h1 : n.1 < 70 ∨ 81 < n.1 := by
    rcases h.2.1 with e | e
    · exact Or.inl (Nat.lt_of_not_le (fun q => by rw [Nat.ble_eq_true_of_le q] at e; cases e))
    · exact Or.inr (Nat.lt_of_not_le (fun q => by rw [Nat.ble_eq_true_of_le q] at e; cases e))
  rw [Bool.or_eq_false_iff, Bool.or_eq_false_iff, Bool.and_eq_false_iff, Bool.and_eq_false_iff]
  refine ⟨Bool.eq_false_iff.mpr (fun q => by have := Nat.eq_of_beq_eq_true q; omega), Bool.eq_false_iff.mpr (fun q => by have := Nat.eq_of_beq_eq_true q; omega), Or.inl ?_⟩
  by_cases e : 78 ≤ n.1
  · exact Or.inr (Bool.eq_false_iff.mpr (fun q => by have := Nat.le_of_ble_eq_true q; omega))
  · exact Or.inl (Bool.eq_false_iff.mpr (fun q => by have := Nat.le_of_ble_eq_true q; omega))
theorem FX.mono {P Q : xN → Bool} {g g1 : xG} (h : FX P g g1) (hp : ∀ n, Q n = false → P n = false) : FX Q g g1 := fun n q => h n (hp n q)
theorem rdP_tok {n : xN} (h : rdP n = false) : tokP n = false := by
  unfold rdP at h
  rw [Bool.or_eq_false_iff] at h
  exact h.1
theorem FX.pxr {g g1 : xG} (h : PX g g1) : FX rdP g g1 := FX.px h rfl rfl rfl
theorem FX.pf {N : Nat} {g g1 : xG} (h : PF N g g1) : FX rdP g g1 := fun n q => h n (fun e => by rw [e] at q; cases q) (fun e => by rw [e] at q; cases q) (fun e => by rw [e] at q; cases q) (fun e => by
  obtain ⟨a, b⟩ := n
  have e1 : a = 200 := e.1
  rw [e1] at q
  cases q)
theorem kidP_n {c d : Nat} (h : d ≠ c) : kidP c (75, d) = false ∧ kidP c (76, d) = false ∧ kidP c (77, d) = false := by
  have h1 : Nat.beq d c = false := Bool.eq_false_iff.mpr (fun q => h (Nat.eq_of_beq_eq_true q))
  exact ⟨h1, h1, h1⟩
theorem klnP_n {c d : Nat} (h : d ≠ c) : klnP c (78, d) = false ∧ klnP c (79, d) = false ∧ klnP c (80, d) = false ∧ klnP c (81, d) = false := by
  have h1 : Nat.beq d c = false := Bool.eq_false_iff.mpr (fun q => h (Nat.eq_of_beq_eq_true q))
  exact ⟨h1, h1, h1, h1⟩
theorem TN.kid {g g1 : xG} {τ : tS} {x y : Nat} (h : TN g τ) (hx : FX (kidP (tnc τ)) g g1) : TN g1 (tKidS τ x y) := ⟨fun c q => by
  have q1 : tnc τ + 1 ≤ c := q
  have q2 := kidP_n (show c ≠ tnc τ by omega)
  have q3 := h.1 c (by omega)
  exact ⟨(hx _ q2.1).trans q3.1, (hx _ q2.2.1).trans q3.2.1, (hx _ q2.2.2).trans q3.2.2⟩, fun c q => by
  have q3 := h.2 c q
  exact ⟨(hx (78, c) rfl).trans q3.1, (hx (79, c) rfl).trans q3.2.1, (hx (80, c) rfl).trans q3.2.2.1, (hx (81, c) rfl).trans q3.2.2.2⟩⟩
theorem TN.kln {g g1 : xG} {τ : tS} {x : Nat} (h : TN g τ) (hx : FX (klnP (tnk τ)) g g1) : TN g1 (tKlnS τ x) := ⟨fun c q => by
  have q3 := h.1 c q
  exact ⟨(hx (75, c) rfl).trans q3.1, (hx (76, c) rfl).trans q3.2.1, (hx (77, c) rfl).trans q3.2.2⟩, fun c q => by
  have q1 : tnk τ + 1 ≤ c := q
  have q2 := klnP_n (show c ≠ tnk τ by omega)
  have q3 := h.2 c (by omega)
  exact ⟨(hx _ q2.1).trans q3.1, (hx _ q2.2.1).trans q3.2.1, (hx _ q2.2.2.1).trans q3.2.2.1, (hx _ q2.2.2.2).trans q3.2.2.2⟩⟩
def tSame (τ τ' : tS) : Prop := tnc τ' = tnc τ ∧ tnk τ' = tnk τ ∧ tcl τ' = tcl τ ∧ tgr τ' = tgr τ ∧ trm τ' = trm τ
theorem TN.same {g g1 : xG} {τ τ' : tS} (h : TN g τ) (e : tSame τ τ') (hx : ∀ n : xN, 75 ≤ n.1 → n.1 ≤ 81 → g1 n = g n) : TN g1 τ' := by
  obtain ⟨e1, e2, -⟩ := e
  refine ⟨fun c q => ?_, fun c q => ?_⟩
  · rw [e1] at q
    have q3 := h.1 c q
    exact ⟨(hx (75, c) (Nat.le_of_ble_eq_true rfl) (Nat.le_of_ble_eq_true rfl)).trans q3.1, (hx (76, c) (Nat.le_of_ble_eq_true rfl) (Nat.le_of_ble_eq_true rfl)).trans q3.2.1, (hx (77, c) (Nat.le_of_ble_eq_true rfl) (Nat.le_of_ble_eq_true rfl)).trans q3.2.2⟩
  · rw [e2] at q
    have q3 := h.2 c q
    exact ⟨(hx (78, c) (Nat.le_of_ble_eq_true rfl) (Nat.le_of_ble_eq_true rfl)).trans q3.1, (hx (79, c) (Nat.le_of_ble_eq_true rfl) (Nat.le_of_ble_eq_true rfl)).trans q3.2.1, (hx (80, c) (Nat.le_of_ble_eq_true rfl) (Nat.le_of_ble_eq_true rfl)).trans q3.2.2.1, (hx (81, c) (Nat.le_of_ble_eq_true rfl) (Nat.le_of_ble_eq_true rfl)).trans q3.2.2.2⟩
theorem TW.town {g : xG} {ht d0 : Nat} {τ τ' : tS} {fo fo' : Nat → Option Nat} {ca ka pa : Nat → Nat} {la lk : Nat} (h : TW g ht d0 τ fo ca ka pa) (hU : g (70, 0) = some (ht, tTown τ fo la lk)) (e : tSame τ τ') : TW (xu g (70, 0) (some (ht, tTown τ' fo' la lk))) ht d0 τ' fo' ca ka pa := by
  obtain ⟨la2, lk2, h1, h2, h3, h4, h5, h6, h7⟩ := h
  obtain ⟨rfl, rfl⟩ := tw_inj hU h1
  obtain ⟨e1, e2, e3, e4, e5⟩ := e
  refine ⟨la, lk, xu_eq _ _ _, ?_, ?_, fun c q => ?_, fun c q => ?_, by rw [e1]; exact h6, by rw [e2]; exact h7⟩
  · rw [e1]; exact h2.ext (xu_ne (n_fst rfl)) (xu_ne (n_fst rfl))
  · rw [e2]; exact h3.ext (xu_ne (n_fst rfl)) (xu_ne (n_fst rfl))
  · rw [e1] at q
    rw [e3, e4]
    obtain ⟨s, v, q1, q2, q3⟩ := h4 c q
    exact ⟨s, v, (xu_ne (n_fst rfl)).trans q1, (xu_ne (n_fst rfl)).trans q2, (xu_ne (n_fst rfl)).trans q3⟩
  · rw [e2] at q
    rw [e5]
    obtain ⟨s, v, q1, q2, q3, q4⟩ := h5 c q
    exact ⟨s, v, (xu_ne (n_fst rfl)).trans q1, (xu_ne (n_fst rfl)).trans q2, (xu_ne (n_fst rfl)).trans q3, (xu_ne (n_fst rfl)).trans q4⟩
theorem tFm.ext {g g1 : xG} {N N1 j : Nat} {o : Option Nat} {f : Option (aEnv → Int64)} (h : tFm g N j o f) (hn : N ≤ N1) (hx : ∀ i, i < N → g1 (200, i) = g (200, i)) : tFm g1 N1 j o f := by
  rcases h with h | ⟨a, fn, h1, h2, h3⟩
  · exact Or.inl h
  · exact Or.inr ⟨a, fn, h1, h2, aR_into h3 (Nat.le_refl _) hn (Nat.le_refl _) (fun i _ q => hx i q)⟩
/-- the town's own cell is written -/
theorem TI.town {s0 : State} {g : xG} {Z : Nat × Nat × Nat} {tx : List Nat} {A V B : Nat → Nat} {d0 N la lk : Nat} {τ τ' : tS} {F' : Nat → Option (aEnv → Int64)} {fo fo' : Nat → Option Nat} {ca ka pa : Nat → Nat} (hE : PE g Z tx A V B) (hS : KS0 s0 A V B) (hz : xE0 s0 g d0) (hF : FR N g) (hN : TN g τ) (hT : TW g Z.2.1 d0 τ fo ca ka pa) (hU : g (70, 0) = some (Z.2.1, tTown τ fo la lk)) (e : tSame τ τ') (hfm : ∀ j, j < 4 → tFm g N j (fo' j) (F' j)) : TI s0 (xu g (70, 0) (some (Z.2.1, tTown τ' fo' la lk))) Z tx A V B d0 N τ' F' :=
  ⟨hE.fx (P := rdP) (FX.r0.u 70 0 rfl _) ⟨rfl, rfl, fun n hn => by
    unfold rdP
    rw [tokP_big (by omega), Bool.false_or, Bool.or_eq_false_iff, Bool.and_eq_false_iff]
    exact ⟨Or.inr (Bool.eq_false_iff.mpr (fun q => by have := Nat.le_of_ble_eq_true q; omega)), Bool.eq_false_iff.mpr (fun q => by have := Nat.eq_of_beq_eq_true q; omega)⟩⟩, hS, ⟨hz.1, hz.2.choose, (xu_ne (n_fst rfl)).trans hz.2.choose_spec⟩, ⟨fun i hi => (xu_ne (n_fst rfl)).trans (hF.1 i hi), (xu_ne (n_fst rfl)).trans hF.2⟩, hN.same e (fun n h1 h2 => xu_ne (fun q => by rw [q] at h1; exact absurd h1 (by decide))), fo', ca, ka, pa, hT.town hU e, fun j hj => (hfm j hj).ext (Nat.le_refl _) (fun i _ => xu_ne (n_fst rfl))⟩

set_option maxHeartbeats 4000000 in
set_option maxRecDepth 100000 in
theorem m_X5_parts {l : Launch} {s0 : State} {D : va_G} (h0 : x0 l s0 D) (g : xG) {sc : Nat} {Z : Nat × Nat × Nat} {tx : List Nat} {fr to op : Nat} {tk : List Tk} (hq : PSt g sc Z tx fr to op false tk) (bg : Int32) (a1 a2 : Nat)  : xMet l s0 D yX5_parts cX5_parts 5 none (xr 1 0 0 40) [.ref sc, .null, .int bg, .int (nI a1), .int (nI a2)] g (fun r g1 => r = none ∧ (∀ n, n ≠ (60, 0) → g1 n = g n) ∧ PSt g1 sc Z tx a1 a2 op false tk) := by
  refine xMet.of h0 (by decide +kernel) rfl ?_
  intro zp ze zs zm za zb zf zc hC hr hnm
  obtain ⟨at0, bd, pl, nb, wh, sg, wd, hc, hat, hb1, hb2, hpl, ⟨-, hlx⟩ | ⟨q, -⟩ | ⟨t, ts1, q, -⟩⟩ := hq
  rotate_left
  · cases q
  · cases q
  refine x_aloadr_n hC dX5_parts_0 (q := 1) rfl rfl ?_
  refine x_aload_n hC dX5_parts_1 (q := 2) rfl rfl (Or.inl rfl) ?_
  refine x_ifnonnull_n hC dX5_parts_2 (q := 5) rfl ?_
  refine x_iconst hC dX5_parts_5 (q := 6) rfl (v := (0)) (by decide) ?_
  refine x_goto hC dX5_parts_6 (tgt := 10) rfl ?_
  refine x_iconst hC dX5_parts_10 (q := 11) rfl (v := (1)) (by decide) ?_
  refine x_iload_n hC dX5_parts_11 (q := 12) rfl rfl ?_
  refine x_callV hC xv_X5_257 dX5_parts_12 (q := 15) rfl rfl (m_X5_space h0 g sc (x := 0) (y := 1) (by decide) (by decide) (by decide) bg) (nn := (60, 0)) hc rfl rfl (Nat.le_of_ble_eq_true rfl) ⟨(Nat.le_of_ble_eq_true rfl), (Nat.le_of_ble_eq_true rfl)⟩ ⟨(Nat.le_of_ble_eq_true rfl), (Nat.le_of_ble_eq_true rfl)⟩ (fun v g1 hp => ?_)
  obtain ⟨rfl, hg1⟩ := hp
  replace hg1 := hg1.symm
  subst hg1
  refine x_aloadr_n hC dX5_parts_15 (q := 16) rfl rfl ?_
  refine x_iload_n hC dX5_parts_16 (q := 17) rfl rfl ?_
  refine x_put hC (n := (60, 0)) xf_X5_228_4 xd_4 rfl dX5_parts_17 (q := 20) rfl hc rfl rfl rfl ?_
  refine x_aloadr_n hC dX5_parts_20 (q := 21) rfl rfl ?_
  refine x_iload hC dX5_parts_21 (q := 23) rfl rfl ?_
  refine x_put hC (n := (60, 0)) xf_X5_231_4 xd_4 rfl dX5_parts_23 (q := 26) rfl (xu_eq _ _ _) rfl rfl rfl ?_
  rw [xu_xu]
  exact x_vret hC hr dX5_parts_26 (Nat.le_of_ble_eq_true rfl) (Nat.le_of_ble_eq_true rfl) ⟨rfl, fun n hn => xu_ne hn, at0, bd, pl, nb, wh, sg, wd, xu_eq _ _ _, hat, hb1, hb2, hpl, Or.inl ⟨rfl, hlx⟩⟩

set_option maxHeartbeats 4000000 in
set_option maxRecDepth 100000 in
theorem m_X5_sum4 {l : Launch} {s0 : State} {D : va_G} (h0 : x0 l s0 D) {lv F Lo : Nat} {p : pP} {a1 a2 : Nat} (hP : cP l s0 D yX5_sum_2 cX5_sum_2 4 "KilnBench$Sum" false true F Lo 6 lv a1 a2 p) (g : xG) {sc : Nat} {Z : Nat × Nat × Nat} {tx : List Nat} {fr to op : Nat} {tk : List Tk} (hq : PSt g sc Z tx fr to op false tk) (bg : Int32) {A V B : Nat → Nat} {d0 N : Nat} (hE : PE g Z tx A V B) (hS : KS0 s0 A V B) (hz : xE0 s0 g d0) (hF : FR N g) (hop : op + lv ≤ 7) {r0 : pR} (hp0 : p tk = some r0) (hF9 : 12 ≤ F) (hLo : 100 ≤ Lo) : xMet l s0 D yX5_sum cX5_sum 5 (some (.object "KilnBench$Sum")) ((fRoom (F + 1) 6 (Lo + 60) tk r0.2.2)) [.ref sc, .null, .int bg, .int (nI a1), .int (nI a2)] g (fPost g sc Z tx a1 a2 op N true false r0) := by
  refine xMet.of h0 (by decide +kernel) rfl ?_
  intro zp ze zs zm za zb zf zc hC hr hnm
  obtain ⟨fs0, hc⟩ := hq.cell
  refine x_aloadr_n hC dX5_sum_0 (q := 1) rfl rfl ?_
  refine x_aload_n hC dX5_sum_1 (q := 2) rfl rfl (Or.inl rfl) ?_
  refine x_iload_n hC dX5_sum_2 (q := 3) rfl rfl ?_
  refine x_iload_n hC dX5_sum_3 (q := 4) rfl rfl ?_
  refine x_iload hC dX5_sum_4 (q := 6) rfl rfl ?_
  refine x_callV hC xv_X5_287 dX5_sum_6 (q := 9) rfl rfl (m_X5_parts h0 g hq bg a1 a2) (nn := (60, 0)) hc rfl rfl (Nat.le_of_ble_eq_true rfl) ⟨(by (try dsimp only); omega), (by (try dsimp only); omega)⟩ ⟨(by (try dsimp only); omega), (by (try dsimp only); omega)⟩ (fun v g1p hp => ?_)
  obtain ⟨rfl, hx1, hs1⟩ := hp
  have hp1 : PF N g g1p := fun n q _ _ _ => hx1 n q
  obtain ⟨fs1, hc1⟩ := hs1.cell
  refine x_aloadr_n hC dX5_sum_9 (q := 10) rfl rfl ?_
  refine x_callV hC xv_X5_180 dX5_sum_10 (q := 13) rfl rfl (hP _ sc Z tx A V B d0 op N false tk r0 (hE.pf hp1) hS (hz.pf hp1) hs1 ⟨fun i hi => (hx1 _ (n_fst rfl)).trans (hF.1 i hi), (hx1 _ (n_fst rfl)).trans hF.2⟩ hop hp0) (nn := (60, 0)) hc1 rfl rfl (Nat.le_of_ble_eq_true rfl) ⟨(by (try dsimp only); omega), (by (try dsimp only); omega)⟩ ⟨(by (try dsimp only); omega), (by (try dsimp only); omega)⟩ (fun v g1 hp => ?_)
  obtain ⟨a, N1, rfl, hN1, hpf1, hF1, hs2, hR1⟩ := hp
  exact x_aret hC hr (Or.inl ⟨_, rfl⟩) (Or.inr ⟨_, rfl⟩) dX5_sum_13 (by (try dsimp only); omega) (by (try dsimp only); omega) ⟨a, N1, rfl, hN1, hp1.trans hpf1 (Nat.le_refl _), hF1, hs2, hR1⟩

set_option maxHeartbeats 4000000 in
set_option maxRecDepth 100000 in
theorem m_X5_test4 {l : Launch} {s0 : State} {D : va_G} (h0 : x0 l s0 D) {lv F Lo : Nat} {p : pP} {a1 a2 : Nat} (hP : cP l s0 D yX5_test cX5_test 3 "KilnBench$Test" true true F Lo 14 lv a1 a2 p) (g : xG) {sc : Nat} {Z : Nat × Nat × Nat} {tx : List Nat} {fr to op : Nat} {tk : List Tk} (hq : PSt g sc Z tx fr to op false tk) (bg : Int32) {A V B : Nat → Nat} {d0 N : Nat} (hE : PE g Z tx A V B) (hS : KS0 s0 A V B) (hz : xE0 s0 g d0) (hF : FR N g) (hop : op + lv ≤ 7) {r0 : pR} (hp0 : p tk = some r0) (hF9 : 12 ≤ F) (hLo : 100 ≤ Lo) : xMet l s0 D yX5_test_2 cX5_test_2 5 (some (.object "KilnBench$Test")) ((fRoom (F + 1) 14 (Lo + 60) tk r0.2.2)) [.ref sc, .null, .int bg, .int (nI a1), .int (nI a2)] g (fPost g sc Z tx a1 a2 op N true true r0) := by
  refine xMet.of h0 (by decide +kernel) rfl ?_
  intro zp ze zs zm za zb zf zc hC hr hnm
  obtain ⟨fs0, hc⟩ := hq.cell
  refine x_aloadr_n hC dX5_test_2_0 (q := 1) rfl rfl ?_
  refine x_aload_n hC dX5_test_2_1 (q := 2) rfl rfl (Or.inl rfl) ?_
  refine x_iload_n hC dX5_test_2_2 (q := 3) rfl rfl ?_
  refine x_iload_n hC dX5_test_2_3 (q := 4) rfl rfl ?_
  refine x_iload hC dX5_test_2_4 (q := 6) rfl rfl ?_
  refine x_callV hC xv_X5_287 dX5_test_2_6 (q := 9) rfl rfl (m_X5_parts h0 g hq bg a1 a2) (nn := (60, 0)) hc rfl rfl (Nat.le_of_ble_eq_true rfl) ⟨(by (try dsimp only); omega), (by (try dsimp only); omega)⟩ ⟨(by (try dsimp only); omega), (by (try dsimp only); omega)⟩ (fun v g1p hp => ?_)
  obtain ⟨rfl, hx1, hs1⟩ := hp
  have hp1 : PF N g g1p := fun n q _ _ _ => hx1 n q
  obtain ⟨fs1, hc1⟩ := hs1.cell
  refine x_aloadr_n hC dX5_test_2_9 (q := 10) rfl rfl ?_
  refine x_callV hC xv_X5_166 dX5_test_2_10 (q := 13) rfl rfl (hP _ sc Z tx A V B d0 op N false tk r0 (hE.pf hp1) hS (hz.pf hp1) hs1 ⟨fun i hi => (hx1 _ (n_fst rfl)).trans (hF.1 i hi), (hx1 _ (n_fst rfl)).trans hF.2⟩ hop hp0) (nn := (60, 0)) hc1 rfl rfl (Nat.le_of_ble_eq_true rfl) ⟨(by (try dsimp only); omega), (by (try dsimp only); omega)⟩ ⟨(by (try dsimp only); omega), (by (try dsimp only); omega)⟩ (fun v g1 hp => ?_)
  obtain ⟨a, N1, rfl, hN1, hpf1, hF1, hs2, hR1⟩ := hp
  exact x_aret hC hr (Or.inl ⟨_, rfl⟩) (Or.inr ⟨_, rfl⟩) dX5_test_2_13 (by (try dsimp only); omega) (by (try dsimp only); omega) ⟨a, N1, rfl, hN1, hp1.trans hpf1 (Nat.le_refl _), hF1, hs2, hR1⟩

set_option maxHeartbeats 4000000 in
set_option maxRecDepth 100000 in
theorem m_X5_statement_child {l : Launch} {s0 : State} {D : va_G} (h0 : x0 l s0 D) (g : xG) {sc : Nat} {Z : Nat × Nat × Nat} {tx : List Nat} {A V B : Nat → Nat} {d0 N fr to : Nat} {τ : tS} {F : Nat → Option (aEnv → Int64)} (hI : TI s0 g Z tx A V B d0 N τ F) (hst : tst τ < 80) {ts : List Tk} {sn : Bool} {w1 w2 : List Nat} (hb1 : sN w1 ≤ 99) (hb2 : sN w2 ≤ 9) (hn6 : tnc τ < 6) (hq : PSt g sc Z tx fr to 0 sn ((1, cW 1) :: (1, ncw (tnc τ)) :: (1, cW 2) :: (2, w1) :: (1, cW 3) :: (2, w2) :: (3, [59]) :: ts)) : xMet l s0 D yX5_statement cX5_statement 2 none ((xr 60 24 400 2000)) [.ref sc] g (fun r g1 => ∃ N1 fr1 to1, r = none ∧ N ≤ N1 ∧ TI s0 g1 Z tx A V B d0 N1 (tMore (tKidS τ (sN w1) (sN w2))) F ∧ PSt g1 sc Z tx fr1 to1 0 false ts ∧ FX rdP g g1) := by
  refine xMet.of h0 (by decide +kernel) rfl ?_
  intro zp ze zs zm za zb zf zc hC hr hnm
  obtain ⟨hE, hS, hz, hF, hN, fo, ca, ka, pa, hT, hfm⟩ := hI
  have hs0 := hq
  obtain ⟨at0, bd0, pl0, nb0, wh0, sn0, sg0, wd0, hc0⟩ := hs0.sc
  have hpx0 : PX g g := PX.rfl
  refine x_aloadr_n hC dX5_statement_0 (q := 1) rfl rfl ?_
  refine x_callV hC xv_X5_86 dX5_statement_1 (q := 4) rfl rfl (m_X5_see h0 g hE hs0 (cz := 2) (sz := 20) (sR_f (by decide) (by decide) _)) (nn := (60, 0)) hc0 rfl rfl (Nat.le_of_ble_eq_true rfl) ⟨(by (try dsimp only); omega), (by (try dsimp only); omega)⟩ ⟨(by (try dsimp only); omega), (by (try dsimp only); omega)⟩ (fun v g1 hp => ?_)
  obtain ⟨rfl, hx1, hq1⟩ := hp
  have hpx1 := hpx0.trans hx1
  have hs1 : PSt g1 sc Z tx fr to 0 true ((1, cW 1) :: (1, ncw (tnc τ)) :: (1, cW 2) :: (2, w1) :: (1, cW 3) :: (2, w2) :: (3, [59]) :: ts) := hq1
  obtain ⟨at1, bd1, pl1, nb1, wh1, sn1, sg1, wd1, hc1⟩ := hs1.sc
  have hTq := hT.ext (TF.px hpx1)
  obtain ⟨laq, lkq, hUq, -⟩ := hTq
  refine x_pop hC dX5_statement_4 (q := 5) rfl rfl ?_
  refine x_aloadr_n hC dX5_statement_5 (q := 6) rfl rfl ?_
  refine x_get hC xf_X5_43_4 dX5_statement_6 (q := 9) rfl (n := (60, 0)) hc1 rfl ?_
  refine x_istore_n hC dX5_statement_9 (q := 10) rfl rfl ?_
  refine x_aloadr_n hC dX5_statement_10 (q := 11) rfl rfl ?_
  refine x_aloadr_n hC dX5_statement_11 (q := 12) rfl rfl ?_
  refine x_get hC xf_X5_18_4 dX5_statement_12 (q := 15) rfl (n := (60, 0)) hc1 rfl ?_
  refine x_get hC xf_X5_291_2 dX5_statement_15 (q := 18) rfl (n := (70, 0)) hUq rfl ?_
  refine x_bipush hC dX5_statement_18 (q := 20) rfl (v := (80)) (by decide) ?_
  refine x_iload_n hC dX5_statement_20 (q := 21) rfl rfl ?_
  refine x_callV hC xv_X5_257 dX5_statement_21 (q := 24) rfl rfl (m_X5_space h0 _ sc (x := tst τ) (y := 80) (by omega) (by decide) (by omega) _) (nn := (60, 0)) hc1 rfl rfl (Nat.le_of_ble_eq_true rfl) ⟨(by (try dsimp only); omega), (by (try dsimp only); omega)⟩ ⟨(by (try dsimp only); omega), (by (try dsimp only); omega)⟩ (fun v g1 hp => ?_)
  obtain ⟨rfl, hg1⟩ := hp
  replace hg1 := hg1.symm
  subst hg1
  refine x_aloadr_n hC dX5_statement_24 (q := 25) rfl rfl ?_
  refine x_ldcwS hC (xk_1 h0 hS) dX5_statement_25 (q := 28) rfl ?_
  refine x_callV hC xv_X5_106 dX5_statement_28 (q := 31) rfl rfl (m_X5_takes h0 _ hS (hE.px hpx1) hs1 1 rfl (cz := 0) (sz := 0) sR_t) (nn := (60, 0)) hc1 rfl rfl (Nat.le_of_ble_eq_true rfl) ⟨(by (try dsimp only); omega), (by (try dsimp only); omega)⟩ ⟨(by (try dsimp only); omega), (by (try dsimp only); omega)⟩ (fun v g2 hp => ?_)
  rw [hdW_c] at hp
  obtain ⟨rfl, hx2, hq2⟩ := hp
  have hpx2 := hpx1.trans hx2
  have hs2 : PSt g2 sc Z tx fr to 0 false ((1, ncw (tnc τ)) :: (1, cW 2) :: (2, w1) :: (1, cW 3) :: (2, w2) :: (3, [59]) :: ts) := hq2
  obtain ⟨at2, bd2, pl2, nb2, wh2, sn2, sg2, wd2, hc2⟩ := hs2.sc
  have hEn := hE.px hpx2
  have hzn := hz.pf (PF.px (N := 0) hpx2)
  have hFn := hF.px hpx2
  have hNn := hN.ext (TF.px hpx2)
  have hTn := hT.ext (TF.px hpx2)
  have hfn : ∀ j, j < 4 → tFm g2 N j (fo j) (F j) := fun j hj => (hfm j hj).ext (Nat.le_refl _) (fun i _ => hpx2 _ (n_fst rfl) (n_fst rfl) (n_fst rfl))
  refine x_if_eq hC dX5_statement_31 (q := 34) rfl (tgt := 42) rfl (fun h31 => ?_) (fun h31 => ?_)
  · exact absurd h31 (by decide)
  refine x_aloadr_n hC dX5_statement_34 (q := 35) rfl rfl ?_
  refine x_iload_n hC dX5_statement_35 (q := 36) rfl rfl ?_
  refine x_callV hC xv_X5_296 dX5_statement_36 (q := 39) rfl rfl (m_X5_child_ h0 _ hEn hS hzn hTn hNn hs2 hb1 hb2 hn6 _) (nn := (60, 0)) hc2 rfl rfl (Nat.le_of_ble_eq_true rfl) ⟨(by (try dsimp only); omega), (by (try dsimp only); omega)⟩ ⟨(by (try dsimp only); omega), (by (try dsimp only); omega)⟩ (fun v gb hp => ?_)
  obtain ⟨ab, pb, rfl, hTb, hsb, hxb⟩ := hp
  have hEb := hEn.fx hxb (kidP_o _)
  have hzb := hzn.fx hxb (kidP_o _)
  have hFb : FR N gb := ⟨fun i hi => (hxb (200, i) rfl).trans (hFn.1 i hi), (hxb (63, 0) rfl).trans hFn.2⟩
  have hNb : TN gb _ := hNn.kid (x := sN w1) (y := sN w2) hxb
  have hfb : ∀ j, j < 4 → tFm gb N j (fo j) (F j) := fun j hj => (hfn j hj).ext (Nat.le_refl _) (fun i _ => hxb (200, i) rfl)
  have hRb : FX rdP g gb := (FX.pxr hpx2).trans (hxb.mono (fun _ => rdP_kid))
  obtain ⟨at9, bd9, pl9, nb9, wh9, sn9, sg9, wd9, hc9⟩ := hsb.sc
  refine x_goto hC dX5_statement_39 (tgt := 277) rfl ?_
  refine x_aloadr_n hC dX5_statement_277 (q := 278) rfl rfl ?_
  refine x_bipush hC dX5_statement_278 (q := 280) rfl (v := (59)) (by decide) ?_
  refine x_callV hC xv_X5_122 dX5_statement_280 (q := 283) rfl rfl (m_X5_asks_2 h0 _ (c := 59) (by decide) hEb hsb (cz := 2) (sz := 20) (sR_f (by decide) (by decide) _)) (nn := (60, 0)) hc9 rfl rfl (Nat.le_of_ble_eq_true rfl) ⟨(by (try dsimp only); omega), (by (try dsimp only); omega)⟩ ⟨(by (try dsimp only); omega), (by (try dsimp only); omega)⟩ (fun v gz hp => ?_)
  obtain ⟨rfl, hxz, hsz⟩ := hp
  have hTz := hTb.ext (TF.px hxz)
  have hTzz := hTz
  obtain ⟨laz, lkz, hUz, -⟩ := hTzz
  obtain ⟨atz, bdz, plz, nbz, whz, snz, sgz, wdz, hcz⟩ := hsz.sc
  refine x_aloadr_n hC dX5_statement_283 (q := 284) rfl rfl ?_
  refine x_get hC xf_X5_18_4 dX5_statement_284 (q := 287) rfl (n := (60, 0)) hcz rfl ?_
  refine x_dup hC dX5_statement_287 (q := 288) rfl rfl ?_
  refine x_get hC xf_X5_291_2 dX5_statement_288 (q := 291) rfl (n := (70, 0)) hUz rfl ?_
  refine x_iconst hC dX5_statement_291 (q := 292) rfl (v := (1)) (by decide) ?_
  refine x_iadd hC dX5_statement_292 (q := 293) rfl ?_
  rw [nI_1]
  refine x_put hC (n := (70, 0)) xf_X5_291_2 xd_2 rfl dX5_statement_293 (q := 296) rfl hUz rfl rfl rfl ?_
  obtain ⟨ge, hge⟩ : ∃ ge, ge = xu gz (70, 0) (some (Z.2.1, tTown (tMore (tKidS τ (sN w1) (sN w2))) fo laz lkz)) := ⟨_, rfl⟩
  refine x_geq (g' := ge) (by rw [hge]; rfl) ?_
  have hIe : TI s0 ge Z tx A V B d0 N (tMore (tKidS τ (sN w1) (sN w2))) F := by
    rw [hge]
    exact TI.town (hEb.px hxz) hS (hzb.pf (PF.px (N := 0) hxz)) (hFb.px hxz) (hNb.ext (TF.px hxz)) hTz hUz ⟨rfl, rfl, rfl, rfl, rfl⟩ (fun j hj => (hfb j hj).ext (Nat.le_refl _) (fun i _ => hxz _ (n_fst rfl) (n_fst rfl) (n_fst rfl)))
  have hse : PSt ge sc Z tx fr to 0 false ts := by rw [hge]; exact hsz.f0 (xu_ne (n_fst rfl))
  have hRe : FX rdP g ge := by rw [hge]; exact (hRb.trans (FX.pxr hxz)).u 70 0 rfl _
  exact x_vret hC hr dX5_statement_296 (by (try dsimp only); omega) (by (try dsimp only); omega) ⟨N, fr, to, rfl, Nat.le_refl _, hIe, hse, hRe⟩

set_option maxHeartbeats 4000000 in
set_option maxRecDepth 100000 in
theorem m_X5_statement_kiln {l : Launch} {s0 : State} {D : va_G} (h0 : x0 l s0 D) (g : xG) {sc : Nat} {Z : Nat × Nat × Nat} {tx : List Nat} {A V B : Nat → Nat} {d0 N fr to : Nat} {τ : tS} {F : Nat → Option (aEnv → Int64)} (hI : TI s0 g Z tx A V B d0 N τ F) (hst : tst τ < 80) {ts : List Tk} {sn : Bool} {w1 : List Nat} (hb0 : 1 ≤ sN w1) (hb1 : sN w1 ≤ 6) (hn6 : tnk τ < 3) (hq : PSt g sc Z tx fr to 0 sn ((1, cW 4) :: (1, nkw (tnk τ)) :: (1, cW 5) :: (2, w1) :: (3, [59]) :: ts)) : xMet l s0 D yX5_statement cX5_statement 2 none ((xr 60 24 400 2000)) [.ref sc] g (fun r g1 => ∃ N1 fr1 to1, r = none ∧ N ≤ N1 ∧ TI s0 g1 Z tx A V B d0 N1 (tMore (tKlnS τ (sN w1))) F ∧ PSt g1 sc Z tx fr1 to1 0 false ts ∧ FX rdP g g1) := by
  refine xMet.of h0 (by decide +kernel) rfl ?_
  intro zp ze zs zm za zb zf zc hC hr hnm
  obtain ⟨hE, hS, hz, hF, hN, fo, ca, ka, pa, hT, hfm⟩ := hI
  have hs0 := hq
  obtain ⟨at0, bd0, pl0, nb0, wh0, sn0, sg0, wd0, hc0⟩ := hs0.sc
  have hpx0 : PX g g := PX.rfl
  refine x_aloadr_n hC dX5_statement_0 (q := 1) rfl rfl ?_
  refine x_callV hC xv_X5_86 dX5_statement_1 (q := 4) rfl rfl (m_X5_see h0 g hE hs0 (cz := 2) (sz := 20) (sR_f (by decide) (by decide) _)) (nn := (60, 0)) hc0 rfl rfl (Nat.le_of_ble_eq_true rfl) ⟨(by (try dsimp only); omega), (by (try dsimp only); omega)⟩ ⟨(by (try dsimp only); omega), (by (try dsimp only); omega)⟩ (fun v g1 hp => ?_)
  obtain ⟨rfl, hx1, hq1⟩ := hp
  have hpx1 := hpx0.trans hx1
  have hs1 : PSt g1 sc Z tx fr to 0 true ((1, cW 4) :: (1, nkw (tnk τ)) :: (1, cW 5) :: (2, w1) :: (3, [59]) :: ts) := hq1
  obtain ⟨at1, bd1, pl1, nb1, wh1, sn1, sg1, wd1, hc1⟩ := hs1.sc
  have hTq := hT.ext (TF.px hpx1)
  obtain ⟨laq, lkq, hUq, -⟩ := hTq
  refine x_pop hC dX5_statement_4 (q := 5) rfl rfl ?_
  refine x_aloadr_n hC dX5_statement_5 (q := 6) rfl rfl ?_
  refine x_get hC xf_X5_43_4 dX5_statement_6 (q := 9) rfl (n := (60, 0)) hc1 rfl ?_
  refine x_istore_n hC dX5_statement_9 (q := 10) rfl rfl ?_
  refine x_aloadr_n hC dX5_statement_10 (q := 11) rfl rfl ?_
  refine x_aloadr_n hC dX5_statement_11 (q := 12) rfl rfl ?_
  refine x_get hC xf_X5_18_4 dX5_statement_12 (q := 15) rfl (n := (60, 0)) hc1 rfl ?_
  refine x_get hC xf_X5_291_2 dX5_statement_15 (q := 18) rfl (n := (70, 0)) hUq rfl ?_
  refine x_bipush hC dX5_statement_18 (q := 20) rfl (v := (80)) (by decide) ?_
  refine x_iload_n hC dX5_statement_20 (q := 21) rfl rfl ?_
  refine x_callV hC xv_X5_257 dX5_statement_21 (q := 24) rfl rfl (m_X5_space h0 _ sc (x := tst τ) (y := 80) (by omega) (by decide) (by omega) _) (nn := (60, 0)) hc1 rfl rfl (Nat.le_of_ble_eq_true rfl) ⟨(by (try dsimp only); omega), (by (try dsimp only); omega)⟩ ⟨(by (try dsimp only); omega), (by (try dsimp only); omega)⟩ (fun v g1 hp => ?_)
  obtain ⟨rfl, hg1⟩ := hp
  replace hg1 := hg1.symm
  subst hg1
  refine x_aloadr_n hC dX5_statement_24 (q := 25) rfl rfl ?_
  refine x_ldcwS hC (xk_1 h0 hS) dX5_statement_25 (q := 28) rfl ?_
  refine x_callV hC xv_X5_106 dX5_statement_28 (q := 31) rfl rfl (m_X5_takes h0 _ hS (hE.px hpx1) hs1 1 rfl (cz := 0) (sz := 0) sR_t) (nn := (60, 0)) hc1 rfl rfl (Nat.le_of_ble_eq_true rfl) ⟨(by (try dsimp only); omega), (by (try dsimp only); omega)⟩ ⟨(by (try dsimp only); omega), (by (try dsimp only); omega)⟩ (fun v g2 hp => ?_)
  rw [hdW_n (by decide +kernel)] at hp
  obtain ⟨rfl, hx2, hq2⟩ := hp
  have hpx2 := hpx1.trans hx2
  have hs2 : PSt g2 sc Z tx fr to 0 true ((1, cW 4) :: (1, nkw (tnk τ)) :: (1, cW 5) :: (2, w1) :: (3, [59]) :: ts) := hq2
  obtain ⟨at2, bd2, pl2, nb2, wh2, sn2, sg2, wd2, hc2⟩ := hs2.sc
  refine x_if_eq hC dX5_statement_31 (q := 34) rfl (tgt := 42) rfl (fun h31 => ?_) (fun h31 => ?_)
  · refine x_aloadr_n hC dX5_statement_42 (q := 43) rfl rfl ?_
    refine x_ldcwS hC (xk_4 h0 hS) dX5_statement_43 (q := 46) rfl ?_
    refine x_callV hC xv_X5_106 dX5_statement_46 (q := 49) rfl rfl (m_X5_takes h0 _ hS (hE.px hpx2) hs2 4 rfl (cz := 0) (sz := 0) sR_t) (nn := (60, 0)) hc2 rfl rfl (Nat.le_of_ble_eq_true rfl) ⟨(by (try dsimp only); omega), (by (try dsimp only); omega)⟩ ⟨(by (try dsimp only); omega), (by (try dsimp only); omega)⟩ (fun v g3 hp => ?_)
    rw [hdW_c] at hp
    obtain ⟨rfl, hx3, hq3⟩ := hp
    have hpx3 := hpx2.trans hx3
    have hs3 : PSt g3 sc Z tx fr to 0 false ((1, nkw (tnk τ)) :: (1, cW 5) :: (2, w1) :: (3, [59]) :: ts) := hq3
    obtain ⟨at3, bd3, pl3, nb3, wh3, sn3, sg3, wd3, hc3⟩ := hs3.sc
    have hEn := hE.px hpx3
    have hzn := hz.pf (PF.px (N := 0) hpx3)
    have hFn := hF.px hpx3
    have hNn := hN.ext (TF.px hpx3)
    have hTn := hT.ext (TF.px hpx3)
    have hfn : ∀ j, j < 4 → tFm g3 N j (fo j) (F j) := fun j hj => (hfm j hj).ext (Nat.le_refl _) (fun i _ => hpx3 _ (n_fst rfl) (n_fst rfl) (n_fst rfl))
    refine x_if_eq hC dX5_statement_49 (q := 52) rfl (tgt := 60) rfl (fun h49 => ?_) (fun h49 => ?_)
    · exact absurd h49 (by decide)
    refine x_aloadr_n hC dX5_statement_52 (q := 53) rfl rfl ?_
    refine x_iload_n hC dX5_statement_53 (q := 54) rfl rfl ?_
    refine x_callV hC xv_X5_300 dX5_statement_54 (q := 57) rfl rfl (m_X5_kiln_ h0 _ hEn hS hzn hTn hNn hs3 hb0 hb1 hn6 _) (nn := (60, 0)) hc3 rfl rfl (Nat.le_of_ble_eq_true rfl) ⟨(by (try dsimp only); omega), (by (try dsimp only); omega)⟩ ⟨(by (try dsimp only); omega), (by (try dsimp only); omega)⟩ (fun v gb hp => ?_)
    obtain ⟨ab, pb, rfl, hTb, hsb, hxb⟩ := hp
    have hEb := hEn.fx hxb (klnP_o _)
    have hzb := hzn.fx hxb (klnP_o _)
    have hFb : FR N gb := ⟨fun i hi => (hxb (200, i) rfl).trans (hFn.1 i hi), (hxb (63, 0) rfl).trans hFn.2⟩
    have hNb : TN gb _ := hNn.kln (x := sN w1) hxb
    have hfb : ∀ j, j < 4 → tFm gb N j (fo j) (F j) := fun j hj => (hfn j hj).ext (Nat.le_refl _) (fun i _ => hxb (200, i) rfl)
    have hRb : FX rdP g gb := (FX.pxr hpx3).trans (hxb.mono (fun _ => rdP_kln))
    obtain ⟨at9, bd9, pl9, nb9, wh9, sn9, sg9, wd9, hc9⟩ := hsb.sc
    refine x_goto hC dX5_statement_57 (tgt := 277) rfl ?_
    refine x_aloadr_n hC dX5_statement_277 (q := 278) rfl rfl ?_
    refine x_bipush hC dX5_statement_278 (q := 280) rfl (v := (59)) (by decide) ?_
    refine x_callV hC xv_X5_122 dX5_statement_280 (q := 283) rfl rfl (m_X5_asks_2 h0 _ (c := 59) (by decide) hEb hsb (cz := 2) (sz := 20) (sR_f (by decide) (by decide) _)) (nn := (60, 0)) hc9 rfl rfl (Nat.le_of_ble_eq_true rfl) ⟨(by (try dsimp only); omega), (by (try dsimp only); omega)⟩ ⟨(by (try dsimp only); omega), (by (try dsimp only); omega)⟩ (fun v gz hp => ?_)
    obtain ⟨rfl, hxz, hsz⟩ := hp
    have hTz := hTb.ext (TF.px hxz)
    have hTzz := hTz
    obtain ⟨laz, lkz, hUz, -⟩ := hTzz
    obtain ⟨atz, bdz, plz, nbz, whz, snz, sgz, wdz, hcz⟩ := hsz.sc
    refine x_aloadr_n hC dX5_statement_283 (q := 284) rfl rfl ?_
    refine x_get hC xf_X5_18_4 dX5_statement_284 (q := 287) rfl (n := (60, 0)) hcz rfl ?_
    refine x_dup hC dX5_statement_287 (q := 288) rfl rfl ?_
    refine x_get hC xf_X5_291_2 dX5_statement_288 (q := 291) rfl (n := (70, 0)) hUz rfl ?_
    refine x_iconst hC dX5_statement_291 (q := 292) rfl (v := (1)) (by decide) ?_
    refine x_iadd hC dX5_statement_292 (q := 293) rfl ?_
    rw [nI_1]
    refine x_put hC (n := (70, 0)) xf_X5_291_2 xd_2 rfl dX5_statement_293 (q := 296) rfl hUz rfl rfl rfl ?_
    obtain ⟨ge, hge⟩ : ∃ ge, ge = xu gz (70, 0) (some (Z.2.1, tTown (tMore (tKlnS τ (sN w1))) fo laz lkz)) := ⟨_, rfl⟩
    refine x_geq (g' := ge) (by rw [hge]; rfl) ?_
    have hIe : TI s0 ge Z tx A V B d0 N (tMore (tKlnS τ (sN w1))) F := by
      rw [hge]
      exact TI.town (hEb.px hxz) hS (hzb.pf (PF.px (N := 0) hxz)) (hFb.px hxz) (hNb.ext (TF.px hxz)) hTz hUz ⟨rfl, rfl, rfl, rfl, rfl⟩ (fun j hj => (hfb j hj).ext (Nat.le_refl _) (fun i _ => hxz _ (n_fst rfl) (n_fst rfl) (n_fst rfl)))
    have hse : PSt ge sc Z tx fr to 0 false ts := by rw [hge]; exact hsz.f0 (xu_ne (n_fst rfl))
    have hRe : FX rdP g ge := by rw [hge]; exact (hRb.trans (FX.pxr hxz)).u 70 0 rfl _
    exact x_vret hC hr dX5_statement_296 (by (try dsimp only); omega) (by (try dsimp only); omega) ⟨N, fr, to, rfl, Nat.le_refl _, hIe, hse, hRe⟩
  · exact absurd rfl h31

set_option maxHeartbeats 4000000 in
set_option maxRecDepth 100000 in
theorem m_X5_statement_temper {l : Launch} {s0 : State} {D : va_G} (h0 : x0 l s0 D) (g : xG) {sc : Nat} {Z : Nat × Nat × Nat} {tx : List Nat} {A V B : Nat → Nat} {d0 N fr to : Nat} {τ : tS} {F : Nat → Option (aEnv → Int64)} (hI : TI s0 g Z tx A V B d0 N τ F) (hst : tst τ < 80) {ts : List Tk} {sn : Bool} {tk : List Tk} {r0 : pR} {lv : Nat} (hp0 : (pLv 2 4 lv).1 tk = some r0) (hr0 : r0.2.2 = (3, [59]) :: ts) (hdp : r0.2.1 ≤ 6) (hlv : lv ≤ 2) (hFn : F 0 = none) (hq : PSt g sc Z tx fr to 0 sn ((1, cW 6) :: tk)) : xMet l s0 D yX5_statement cX5_statement 2 none ((xr 60 (24 + 20 * (tk.length - r0.2.2.length)) (400 + 5000 * (tk.length - r0.2.2.length)) 2000)) [.ref sc] g (fun r g1 => ∃ N1 fr1 to1, r = none ∧ N ≤ N1 ∧ TI s0 g1 Z tx A V B d0 N1 (tMore τ) (fun i => if i = 0 then some r0.1 else F i) ∧ PSt g1 sc Z tx fr1 to1 0 false ts ∧ FX rdP g g1) := by
  refine xMet.of h0 (by decide +kernel) rfl ?_
  intro zp ze zs zm za zb zf zc hC hr hnm
  have hFn0 := hFn
  obtain ⟨hE, hS, hz, hF, hN, fo, ca, ka, pa, hT, hfm⟩ := hI
  have hs0 := hq
  obtain ⟨at0, bd0, pl0, nb0, wh0, sn0, sg0, wd0, hc0⟩ := hs0.sc
  have hpx0 : PX g g := PX.rfl
  have hlen := (pLen_Lv 2 4 lv).1 _ _ hp0
  refine x_aloadr_n hC dX5_statement_0 (q := 1) rfl rfl ?_
  refine x_callV hC xv_X5_86 dX5_statement_1 (q := 4) rfl rfl (m_X5_see h0 g hE hs0 (cz := 2) (sz := 20) (sR_f (by decide) (by decide) _)) (nn := (60, 0)) hc0 rfl rfl (Nat.le_of_ble_eq_true rfl) ⟨(by (try dsimp only); omega), (by (try dsimp only); omega)⟩ ⟨(by (try dsimp only); omega), (by (try dsimp only); omega)⟩ (fun v g1 hp => ?_)
  obtain ⟨rfl, hx1, hq1⟩ := hp
  have hpx1 := hpx0.trans hx1
  have hs1 : PSt g1 sc Z tx fr to 0 true ((1, cW 6) :: tk) := hq1
  obtain ⟨at1, bd1, pl1, nb1, wh1, sn1, sg1, wd1, hc1⟩ := hs1.sc
  have hTq := hT.ext (TF.px hpx1)
  obtain ⟨laq, lkq, hUq, -⟩ := hTq
  refine x_pop hC dX5_statement_4 (q := 5) rfl rfl ?_
  refine x_aloadr_n hC dX5_statement_5 (q := 6) rfl rfl ?_
  refine x_get hC xf_X5_43_4 dX5_statement_6 (q := 9) rfl (n := (60, 0)) hc1 rfl ?_
  refine x_istore_n hC dX5_statement_9 (q := 10) rfl rfl ?_
  refine x_aloadr_n hC dX5_statement_10 (q := 11) rfl rfl ?_
  refine x_aloadr_n hC dX5_statement_11 (q := 12) rfl rfl ?_
  refine x_get hC xf_X5_18_4 dX5_statement_12 (q := 15) rfl (n := (60, 0)) hc1 rfl ?_
  refine x_get hC xf_X5_291_2 dX5_statement_15 (q := 18) rfl (n := (70, 0)) hUq rfl ?_
  refine x_bipush hC dX5_statement_18 (q := 20) rfl (v := (80)) (by decide) ?_
  refine x_iload_n hC dX5_statement_20 (q := 21) rfl rfl ?_
  refine x_callV hC xv_X5_257 dX5_statement_21 (q := 24) rfl rfl (m_X5_space h0 _ sc (x := tst τ) (y := 80) (by omega) (by decide) (by omega) _) (nn := (60, 0)) hc1 rfl rfl (Nat.le_of_ble_eq_true rfl) ⟨(by (try dsimp only); omega), (by (try dsimp only); omega)⟩ ⟨(by (try dsimp only); omega), (by (try dsimp only); omega)⟩ (fun v g1 hp => ?_)
  obtain ⟨rfl, hg1⟩ := hp
  replace hg1 := hg1.symm
  subst hg1
  refine x_aloadr_n hC dX5_statement_24 (q := 25) rfl rfl ?_
  refine x_ldcwS hC (xk_1 h0 hS) dX5_statement_25 (q := 28) rfl ?_
  refine x_callV hC xv_X5_106 dX5_statement_28 (q := 31) rfl rfl (m_X5_takes h0 _ hS (hE.px hpx1) hs1 1 rfl (cz := 0) (sz := 0) sR_t) (nn := (60, 0)) hc1 rfl rfl (Nat.le_of_ble_eq_true rfl) ⟨(by (try dsimp only); omega), (by (try dsimp only); omega)⟩ ⟨(by (try dsimp only); omega), (by (try dsimp only); omega)⟩ (fun v g2 hp => ?_)
  rw [hdW_n (by decide +kernel)] at hp
  obtain ⟨rfl, hx2, hq2⟩ := hp
  have hpx2 := hpx1.trans hx2
  have hs2 : PSt g2 sc Z tx fr to 0 true ((1, cW 6) :: tk) := hq2
  obtain ⟨at2, bd2, pl2, nb2, wh2, sn2, sg2, wd2, hc2⟩ := hs2.sc
  refine x_if_eq hC dX5_statement_31 (q := 34) rfl (tgt := 42) rfl (fun h31 => ?_) (fun h31 => ?_)
  · refine x_aloadr_n hC dX5_statement_42 (q := 43) rfl rfl ?_
    refine x_ldcwS hC (xk_4 h0 hS) dX5_statement_43 (q := 46) rfl ?_
    refine x_callV hC xv_X5_106 dX5_statement_46 (q := 49) rfl rfl (m_X5_takes h0 _ hS (hE.px hpx2) hs2 4 rfl (cz := 0) (sz := 0) sR_t) (nn := (60, 0)) hc2 rfl rfl (Nat.le_of_ble_eq_true rfl) ⟨(by (try dsimp only); omega), (by (try dsimp only); omega)⟩ ⟨(by (try dsimp only); omega), (by (try dsimp only); omega)⟩ (fun v g3 hp => ?_)
    rw [hdW_n (by decide +kernel)] at hp
    obtain ⟨rfl, hx3, hq3⟩ := hp
    have hpx3 := hpx2.trans hx3
    have hs3 : PSt g3 sc Z tx fr to 0 true ((1, cW 6) :: tk) := hq3
    obtain ⟨at3, bd3, pl3, nb3, wh3, sn3, sg3, wd3, hc3⟩ := hs3.sc
    refine x_if_eq hC dX5_statement_49 (q := 52) rfl (tgt := 60) rfl (fun h49 => ?_) (fun h49 => ?_)
    · refine x_aloadr_n hC dX5_statement_60 (q := 61) rfl rfl ?_
      refine x_ldcwS hC (xk_6 h0 hS) dX5_statement_61 (q := 64) rfl ?_
      refine x_callV hC xv_X5_106 dX5_statement_64 (q := 67) rfl rfl (m_X5_takes h0 _ hS (hE.px hpx3) hs3 6 rfl (cz := 0) (sz := 0) sR_t) (nn := (60, 0)) hc3 rfl rfl (Nat.le_of_ble_eq_true rfl) ⟨(by (try dsimp only); omega), (by (try dsimp only); omega)⟩ ⟨(by (try dsimp only); omega), (by (try dsimp only); omega)⟩ (fun v g4 hp => ?_)
      rw [hdW_c] at hp
      obtain ⟨rfl, hx4, hq4⟩ := hp
      have hpx4 := hpx3.trans hx4
      have hs4 : PSt g4 sc Z tx fr to 0 false (tk) := hq4
      obtain ⟨at4, bd4, pl4, nb4, wh4, sn4, sg4, wd4, hc4⟩ := hs4.sc
      have hEn := hE.px hpx4
      have hzn := hz.pf (PF.px (N := 0) hpx4)
      have hFn := hF.px hpx4
      have hNn := hN.ext (TF.px hpx4)
      have hTn := hT.ext (TF.px hpx4)
      have hfn : ∀ j, j < 4 → tFm g4 N j (fo j) (F j) := fun j hj => (hfm j hj).ext (Nat.le_refl _) (fun i _ => hpx4 _ (n_fst rfl) (n_fst rfl) (n_fst rfl))
      refine x_if_eq hC dX5_statement_67 (q := 70) rfl (tgt := 94) rfl (fun h67 => ?_) (fun h67 => ?_)
      · exact absurd h67 (by decide)
      refine x_aloadr_n hC dX5_statement_70 (q := 71) rfl rfl ?_
      refine x_get hC xf_X5_18_4 dX5_statement_71 (q := 74) rfl (n := (60, 0)) hc4 rfl ?_
      have hTnn := hTn
      obtain ⟨lan, lkn, hUn, -⟩ := hTnn
      have hfo : fo 0 = none := by
        rcases hfn 0 (by decide) with q | ⟨_, _, _, q, _⟩
        · exact q.1
        · rw [hFn0] at q; cases q
      refine x_aloadr_n hC dX5_statement_74 (q := 75) rfl rfl ?_
      refine x_aloadr_n hC dX5_statement_75 (q := 76) rfl rfl ?_
      refine x_get hC xf_X5_18_4 dX5_statement_76 (q := 79) rfl (n := (60, 0)) hc4 rfl ?_
      refine x_get hC xf_X5_304_2 dX5_statement_79 (q := 82) rfl (n := (70, 0)) hUn rfl ?_
      rw [hfo]
      refine x_iload_n hC dX5_statement_82 (q := 83) rfl rfl ?_
      refine x_iconst hC dX5_statement_83 (q := 84) rfl (v := (2)) (by decide) ?_
      refine x_iconst hC dX5_statement_84 (q := 85) rfl (v := (4)) (by decide) ?_
      refine x_callV hC xv_X5_307 dX5_statement_85 (q := 88) rfl rfl (m_X5_sum4 h0 ((c_Lv h0 (fr := 2) (to := 4) (by decide) (by decide) lv).1) g4 hs4 _ hEn hS hzn hFn (by omega) hp0 (by omega) (by omega)) (nn := (60, 0)) hc4 rfl rfl (Nat.le_of_ble_eq_true rfl) ⟨(by (try dsimp only); omega), (by (try dsimp only); omega)⟩ ⟨(by (try dsimp only); omega), (by (try dsimp only); omega)⟩ (fun v gm hp => ?_)
      obtain ⟨am, Nm, rfl, hNm, hpm, hFm, hsm, hRm⟩ := hp
      rw [hr0] at hsm
      have hTm := hTn.ext (TF.pf hpm)
      have hTmm := hTm
      obtain ⟨lam, lkm, hUm, -⟩ := hTmm
      refine x_put hC (n := (70, 0)) xf_X5_304_2 xd_2 rfl dX5_statement_88 (q := 91) rfl hUm rfl rfl rfl ?_
      obtain ⟨gb, hgb⟩ : ∃ gb, gb = xu gm (70, 0) (some (Z.2.1, tTown τ (fun i => if i = 0 then some am else fo i) lam lkm)) := ⟨_, rfl⟩
      refine x_geq (g' := gb) (by rw [hgb]; rfl) ?_
      have hIb : TI s0 gb Z tx A V B d0 Nm τ (fun i => if i = 0 then some r0.1 else F i) := by
        rw [hgb]
        refine TI.town (hEn.pf hpm) hS (hzn.pf hpm) hFm (hNn.ext (TF.pf hpm)) hTm hUm ⟨rfl, rfl, rfl, rfl, rfl⟩ (fun i hi => ?_)
        by_cases e : i = 0
        · subst e
          exact Or.inr ⟨am, r0.1, if_pos rfl, if_pos rfl, aR_into hRm (Nat.zero_le _) (Nat.le_refl _) hdp (fun _ _ _ => rfl)⟩
        · rw [if_neg e, if_neg e]
          exact (hfn i hi).ext hNm (fun i q => hpm.at q)
      obtain ⟨hEb, -, hzb, hFb, hNb, fob, cab, kab, pab, hTb, hfb⟩ := hIb
      have hsb : PSt gb sc Z tx 2 4 0 true ((3, [59]) :: ts) := by rw [hgb]; exact hsm.pf (N := 0) (xu_ne (n_fst rfl)) (xu_ne (n_fst rfl)) (xu_ne (n_fst rfl))
      have hRb : FX rdP g gb := by rw [hgb]; exact ((FX.pxr hpx4).trans (FX.pf hpm)).u 70 0 rfl _
      obtain ⟨at9, bd9, pl9, nb9, wh9, sn9, sg9, wd9, hc9⟩ := hsb.sc
      refine x_goto hC dX5_statement_91 (tgt := 277) rfl ?_
      refine x_aloadr_n hC dX5_statement_277 (q := 278) rfl rfl ?_
      refine x_bipush hC dX5_statement_278 (q := 280) rfl (v := (59)) (by decide) ?_
      refine x_callV hC xv_X5_122 dX5_statement_280 (q := 283) rfl rfl (m_X5_asks_2 h0 _ (c := 59) (by decide) hEb hsb (cz := 2) (sz := 20) (sR_f (by decide) (by decide) _)) (nn := (60, 0)) hc9 rfl rfl (Nat.le_of_ble_eq_true rfl) ⟨(by (try dsimp only); omega), (by (try dsimp only); omega)⟩ ⟨(by (try dsimp only); omega), (by (try dsimp only); omega)⟩ (fun v gz hp => ?_)
      obtain ⟨rfl, hxz, hsz⟩ := hp
      have hTz := hTb.ext (TF.px hxz)
      have hTzz := hTz
      obtain ⟨laz, lkz, hUz, -⟩ := hTzz
      obtain ⟨atz, bdz, plz, nbz, whz, snz, sgz, wdz, hcz⟩ := hsz.sc
      refine x_aloadr_n hC dX5_statement_283 (q := 284) rfl rfl ?_
      refine x_get hC xf_X5_18_4 dX5_statement_284 (q := 287) rfl (n := (60, 0)) hcz rfl ?_
      refine x_dup hC dX5_statement_287 (q := 288) rfl rfl ?_
      refine x_get hC xf_X5_291_2 dX5_statement_288 (q := 291) rfl (n := (70, 0)) hUz rfl ?_
      refine x_iconst hC dX5_statement_291 (q := 292) rfl (v := (1)) (by decide) ?_
      refine x_iadd hC dX5_statement_292 (q := 293) rfl ?_
      rw [nI_1]
      refine x_put hC (n := (70, 0)) xf_X5_291_2 xd_2 rfl dX5_statement_293 (q := 296) rfl hUz rfl rfl rfl ?_
      obtain ⟨ge, hge⟩ : ∃ ge, ge = xu gz (70, 0) (some (Z.2.1, tTown (tMore τ) fob laz lkz)) := ⟨_, rfl⟩
      refine x_geq (g' := ge) (by rw [hge]; rfl) ?_
      have hIe : TI s0 ge Z tx A V B d0 Nm (tMore τ) (fun i => if i = 0 then some r0.1 else F i) := by
        rw [hge]
        exact TI.town (hEb.px hxz) hS (hzb.pf (PF.px (N := 0) hxz)) (hFb.px hxz) (hNb.ext (TF.px hxz)) hTz hUz ⟨rfl, rfl, rfl, rfl, rfl⟩ (fun j hj => (hfb j hj).ext (Nat.le_refl _) (fun i _ => hxz _ (n_fst rfl) (n_fst rfl) (n_fst rfl)))
      have hse : PSt ge sc Z tx 2 4 0 false ts := by rw [hge]; exact hsz.f0 (xu_ne (n_fst rfl))
      have hRe : FX rdP g ge := by rw [hge]; exact (hRb.trans (FX.pxr hxz)).u 70 0 rfl _
      exact x_vret hC hr dX5_statement_296 (by (try dsimp only); omega) (by (try dsimp only); omega) ⟨Nm, 2, 4, rfl, hNm, hIe, hse, hRe⟩
    · exact absurd rfl h49
  · exact absurd rfl h31

set_option maxHeartbeats 4000000 in
set_option maxRecDepth 100000 in
theorem m_X5_statement_cracks {l : Launch} {s0 : State} {D : va_G} (h0 : x0 l s0 D) (g : xG) {sc : Nat} {Z : Nat × Nat × Nat} {tx : List Nat} {A V B : Nat → Nat} {d0 N fr to : Nat} {τ : tS} {F : Nat → Option (aEnv → Int64)} (hI : TI s0 g Z tx A V B d0 N τ F) (hst : tst τ < 80) {ts : List Tk} {sn : Bool} {tk : List Tk} {r0 : pR} {lv : Nat} (hp0 : (pLv 2 5 lv).2 tk = some r0) (hr0 : r0.2.2 = (3, [59]) :: ts) (hdp : r0.2.1 ≤ 6) (hlv : lv ≤ 2) (hFn : F 2 = none) (hq : PSt g sc Z tx fr to 0 sn ((1, cW 14) :: tk)) : xMet l s0 D yX5_statement cX5_statement 2 none ((xr 60 (24 + 20 * (tk.length - r0.2.2.length)) (400 + 5000 * (tk.length - r0.2.2.length)) 2000)) [.ref sc] g (fun r g1 => ∃ N1 fr1 to1, r = none ∧ N ≤ N1 ∧ TI s0 g1 Z tx A V B d0 N1 (tMore τ) (fun i => if i = 2 then some r0.1 else F i) ∧ PSt g1 sc Z tx fr1 to1 0 false ts ∧ FX rdP g g1) := by
  refine xMet.of h0 (by decide +kernel) rfl ?_
  intro zp ze zs zm za zb zf zc hC hr hnm
  have hFn0 := hFn
  obtain ⟨hE, hS, hz, hF, hN, fo, ca, ka, pa, hT, hfm⟩ := hI
  have hs0 := hq
  obtain ⟨at0, bd0, pl0, nb0, wh0, sn0, sg0, wd0, hc0⟩ := hs0.sc
  have hpx0 : PX g g := PX.rfl
  have hlen := (pLen_Lv 2 5 lv).2 _ _ hp0
  refine x_aloadr_n hC dX5_statement_0 (q := 1) rfl rfl ?_
  refine x_callV hC xv_X5_86 dX5_statement_1 (q := 4) rfl rfl (m_X5_see h0 g hE hs0 (cz := 2) (sz := 20) (sR_f (by decide) (by decide) _)) (nn := (60, 0)) hc0 rfl rfl (Nat.le_of_ble_eq_true rfl) ⟨(by (try dsimp only); omega), (by (try dsimp only); omega)⟩ ⟨(by (try dsimp only); omega), (by (try dsimp only); omega)⟩ (fun v g1 hp => ?_)
  obtain ⟨rfl, hx1, hq1⟩ := hp
  have hpx1 := hpx0.trans hx1
  have hs1 : PSt g1 sc Z tx fr to 0 true ((1, cW 14) :: tk) := hq1
  obtain ⟨at1, bd1, pl1, nb1, wh1, sn1, sg1, wd1, hc1⟩ := hs1.sc
  have hTq := hT.ext (TF.px hpx1)
  obtain ⟨laq, lkq, hUq, -⟩ := hTq
  refine x_pop hC dX5_statement_4 (q := 5) rfl rfl ?_
  refine x_aloadr_n hC dX5_statement_5 (q := 6) rfl rfl ?_
  refine x_get hC xf_X5_43_4 dX5_statement_6 (q := 9) rfl (n := (60, 0)) hc1 rfl ?_
  refine x_istore_n hC dX5_statement_9 (q := 10) rfl rfl ?_
  refine x_aloadr_n hC dX5_statement_10 (q := 11) rfl rfl ?_
  refine x_aloadr_n hC dX5_statement_11 (q := 12) rfl rfl ?_
  refine x_get hC xf_X5_18_4 dX5_statement_12 (q := 15) rfl (n := (60, 0)) hc1 rfl ?_
  refine x_get hC xf_X5_291_2 dX5_statement_15 (q := 18) rfl (n := (70, 0)) hUq rfl ?_
  refine x_bipush hC dX5_statement_18 (q := 20) rfl (v := (80)) (by decide) ?_
  refine x_iload_n hC dX5_statement_20 (q := 21) rfl rfl ?_
  refine x_callV hC xv_X5_257 dX5_statement_21 (q := 24) rfl rfl (m_X5_space h0 _ sc (x := tst τ) (y := 80) (by omega) (by decide) (by omega) _) (nn := (60, 0)) hc1 rfl rfl (Nat.le_of_ble_eq_true rfl) ⟨(by (try dsimp only); omega), (by (try dsimp only); omega)⟩ ⟨(by (try dsimp only); omega), (by (try dsimp only); omega)⟩ (fun v g1 hp => ?_)
  obtain ⟨rfl, hg1⟩ := hp
  replace hg1 := hg1.symm
  subst hg1
  refine x_aloadr_n hC dX5_statement_24 (q := 25) rfl rfl ?_
  refine x_ldcwS hC (xk_1 h0 hS) dX5_statement_25 (q := 28) rfl ?_
  refine x_callV hC xv_X5_106 dX5_statement_28 (q := 31) rfl rfl (m_X5_takes h0 _ hS (hE.px hpx1) hs1 1 rfl (cz := 0) (sz := 0) sR_t) (nn := (60, 0)) hc1 rfl rfl (Nat.le_of_ble_eq_true rfl) ⟨(by (try dsimp only); omega), (by (try dsimp only); omega)⟩ ⟨(by (try dsimp only); omega), (by (try dsimp only); omega)⟩ (fun v g2 hp => ?_)
  rw [hdW_n (by decide +kernel)] at hp
  obtain ⟨rfl, hx2, hq2⟩ := hp
  have hpx2 := hpx1.trans hx2
  have hs2 : PSt g2 sc Z tx fr to 0 true ((1, cW 14) :: tk) := hq2
  obtain ⟨at2, bd2, pl2, nb2, wh2, sn2, sg2, wd2, hc2⟩ := hs2.sc
  refine x_if_eq hC dX5_statement_31 (q := 34) rfl (tgt := 42) rfl (fun h31 => ?_) (fun h31 => ?_)
  · refine x_aloadr_n hC dX5_statement_42 (q := 43) rfl rfl ?_
    refine x_ldcwS hC (xk_4 h0 hS) dX5_statement_43 (q := 46) rfl ?_
    refine x_callV hC xv_X5_106 dX5_statement_46 (q := 49) rfl rfl (m_X5_takes h0 _ hS (hE.px hpx2) hs2 4 rfl (cz := 0) (sz := 0) sR_t) (nn := (60, 0)) hc2 rfl rfl (Nat.le_of_ble_eq_true rfl) ⟨(by (try dsimp only); omega), (by (try dsimp only); omega)⟩ ⟨(by (try dsimp only); omega), (by (try dsimp only); omega)⟩ (fun v g3 hp => ?_)
    rw [hdW_n (by decide +kernel)] at hp
    obtain ⟨rfl, hx3, hq3⟩ := hp
    have hpx3 := hpx2.trans hx3
    have hs3 : PSt g3 sc Z tx fr to 0 true ((1, cW 14) :: tk) := hq3
    obtain ⟨at3, bd3, pl3, nb3, wh3, sn3, sg3, wd3, hc3⟩ := hs3.sc
    refine x_if_eq hC dX5_statement_49 (q := 52) rfl (tgt := 60) rfl (fun h49 => ?_) (fun h49 => ?_)
    · refine x_aloadr_n hC dX5_statement_60 (q := 61) rfl rfl ?_
      refine x_ldcwS hC (xk_6 h0 hS) dX5_statement_61 (q := 64) rfl ?_
      refine x_callV hC xv_X5_106 dX5_statement_64 (q := 67) rfl rfl (m_X5_takes h0 _ hS (hE.px hpx3) hs3 6 rfl (cz := 0) (sz := 0) sR_t) (nn := (60, 0)) hc3 rfl rfl (Nat.le_of_ble_eq_true rfl) ⟨(by (try dsimp only); omega), (by (try dsimp only); omega)⟩ ⟨(by (try dsimp only); omega), (by (try dsimp only); omega)⟩ (fun v g4 hp => ?_)
      rw [hdW_n (by decide +kernel)] at hp
      obtain ⟨rfl, hx4, hq4⟩ := hp
      have hpx4 := hpx3.trans hx4
      have hs4 : PSt g4 sc Z tx fr to 0 true ((1, cW 14) :: tk) := hq4
      obtain ⟨at4, bd4, pl4, nb4, wh4, sn4, sg4, wd4, hc4⟩ := hs4.sc
      refine x_if_eq hC dX5_statement_67 (q := 70) rfl (tgt := 94) rfl (fun h67 => ?_) (fun h67 => ?_)
      · refine x_aloadr_n hC dX5_statement_94 (q := 95) rfl rfl ?_
        refine x_ldcwS hC (xk_14 h0 hS) dX5_statement_95 (q := 98) rfl ?_
        refine x_callV hC xv_X5_106 dX5_statement_98 (q := 101) rfl rfl (m_X5_takes h0 _ hS (hE.px hpx4) hs4 14 rfl (cz := 0) (sz := 0) sR_t) (nn := (60, 0)) hc4 rfl rfl (Nat.le_of_ble_eq_true rfl) ⟨(by (try dsimp only); omega), (by (try dsimp only); omega)⟩ ⟨(by (try dsimp only); omega), (by (try dsimp only); omega)⟩ (fun v g5 hp => ?_)
        rw [hdW_c] at hp
        obtain ⟨rfl, hx5, hq5⟩ := hp
        have hpx5 := hpx4.trans hx5
        have hs5 : PSt g5 sc Z tx fr to 0 false (tk) := hq5
        obtain ⟨at5, bd5, pl5, nb5, wh5, sn5, sg5, wd5, hc5⟩ := hs5.sc
        have hEn := hE.px hpx5
        have hzn := hz.pf (PF.px (N := 0) hpx5)
        have hFn := hF.px hpx5
        have hNn := hN.ext (TF.px hpx5)
        have hTn := hT.ext (TF.px hpx5)
        have hfn : ∀ j, j < 4 → tFm g5 N j (fo j) (F j) := fun j hj => (hfm j hj).ext (Nat.le_refl _) (fun i _ => hpx5 _ (n_fst rfl) (n_fst rfl) (n_fst rfl))
        refine x_if_eq hC dX5_statement_101 (q := 104) rfl (tgt := 128) rfl (fun h101 => ?_) (fun h101 => ?_)
        · exact absurd h101 (by decide)
        refine x_aloadr_n hC dX5_statement_104 (q := 105) rfl rfl ?_
        refine x_get hC xf_X5_18_4 dX5_statement_105 (q := 108) rfl (n := (60, 0)) hc5 rfl ?_
        have hTnn := hTn
        obtain ⟨lan, lkn, hUn, -⟩ := hTnn
        have hfo : fo 2 = none := by
          rcases hfn 2 (by decide) with q | ⟨_, _, _, q, _⟩
          · exact q.1
          · rw [hFn0] at q; cases q
        refine x_aloadr_n hC dX5_statement_108 (q := 109) rfl rfl ?_
        refine x_aloadr_n hC dX5_statement_109 (q := 110) rfl rfl ?_
        refine x_get hC xf_X5_18_4 dX5_statement_110 (q := 113) rfl (n := (60, 0)) hc5 rfl ?_
        refine x_get hC xf_X5_312_2 dX5_statement_113 (q := 116) rfl (n := (70, 0)) hUn rfl ?_
        rw [hfo]
        refine x_iload_n hC dX5_statement_116 (q := 117) rfl rfl ?_
        refine x_iconst hC dX5_statement_117 (q := 118) rfl (v := (2)) (by decide) ?_
        refine x_iconst hC dX5_statement_118 (q := 119) rfl (v := (5)) (by decide) ?_
        refine x_callV hC xv_X5_315 dX5_statement_119 (q := 122) rfl rfl (m_X5_test4 h0 ((c_Lv h0 (fr := 2) (to := 5) (by decide) (by decide) lv).2) g5 hs5 _ hEn hS hzn hFn (by omega) hp0 (by omega) (by omega)) (nn := (60, 0)) hc5 rfl rfl (Nat.le_of_ble_eq_true rfl) ⟨(by (try dsimp only); omega), (by (try dsimp only); omega)⟩ ⟨(by (try dsimp only); omega), (by (try dsimp only); omega)⟩ (fun v gm hp => ?_)
        obtain ⟨am, Nm, rfl, hNm, hpm, hFm, hsm, hRm⟩ := hp
        rw [hr0] at hsm
        have hTm := hTn.ext (TF.pf hpm)
        have hTmm := hTm
        obtain ⟨lam, lkm, hUm, -⟩ := hTmm
        refine x_put hC (n := (70, 0)) xf_X5_312_2 xd_2 rfl dX5_statement_122 (q := 125) rfl hUm rfl rfl rfl ?_
        obtain ⟨gb, hgb⟩ : ∃ gb, gb = xu gm (70, 0) (some (Z.2.1, tTown τ (fun i => if i = 2 then some am else fo i) lam lkm)) := ⟨_, rfl⟩
        refine x_geq (g' := gb) (by rw [hgb]; rfl) ?_
        have hIb : TI s0 gb Z tx A V B d0 Nm τ (fun i => if i = 2 then some r0.1 else F i) := by
          rw [hgb]
          refine TI.town (hEn.pf hpm) hS (hzn.pf hpm) hFm (hNn.ext (TF.pf hpm)) hTm hUm ⟨rfl, rfl, rfl, rfl, rfl⟩ (fun i hi => ?_)
          by_cases e : i = 2
          · subst e
            exact Or.inr ⟨am, r0.1, if_pos rfl, if_pos rfl, aR_into hRm (Nat.zero_le _) (Nat.le_refl _) hdp (fun _ _ _ => rfl)⟩
          · rw [if_neg e, if_neg e]
            exact (hfn i hi).ext hNm (fun i q => hpm.at q)
        obtain ⟨hEb, -, hzb, hFb, hNb, fob, cab, kab, pab, hTb, hfb⟩ := hIb
        have hsb : PSt gb sc Z tx 2 5 0 true ((3, [59]) :: ts) := by rw [hgb]; exact hsm.pf (N := 0) (xu_ne (n_fst rfl)) (xu_ne (n_fst rfl)) (xu_ne (n_fst rfl))
        have hRb : FX rdP g gb := by rw [hgb]; exact ((FX.pxr hpx5).trans (FX.pf hpm)).u 70 0 rfl _
        obtain ⟨at9, bd9, pl9, nb9, wh9, sn9, sg9, wd9, hc9⟩ := hsb.sc
        refine x_goto hC dX5_statement_125 (tgt := 277) rfl ?_
        refine x_aloadr_n hC dX5_statement_277 (q := 278) rfl rfl ?_
        refine x_bipush hC dX5_statement_278 (q := 280) rfl (v := (59)) (by decide) ?_
        refine x_callV hC xv_X5_122 dX5_statement_280 (q := 283) rfl rfl (m_X5_asks_2 h0 _ (c := 59) (by decide) hEb hsb (cz := 2) (sz := 20) (sR_f (by decide) (by decide) _)) (nn := (60, 0)) hc9 rfl rfl (Nat.le_of_ble_eq_true rfl) ⟨(by (try dsimp only); omega), (by (try dsimp only); omega)⟩ ⟨(by (try dsimp only); omega), (by (try dsimp only); omega)⟩ (fun v gz hp => ?_)
        obtain ⟨rfl, hxz, hsz⟩ := hp
        have hTz := hTb.ext (TF.px hxz)
        have hTzz := hTz
        obtain ⟨laz, lkz, hUz, -⟩ := hTzz
        obtain ⟨atz, bdz, plz, nbz, whz, snz, sgz, wdz, hcz⟩ := hsz.sc
        refine x_aloadr_n hC dX5_statement_283 (q := 284) rfl rfl ?_
        refine x_get hC xf_X5_18_4 dX5_statement_284 (q := 287) rfl (n := (60, 0)) hcz rfl ?_
        refine x_dup hC dX5_statement_287 (q := 288) rfl rfl ?_
        refine x_get hC xf_X5_291_2 dX5_statement_288 (q := 291) rfl (n := (70, 0)) hUz rfl ?_
        refine x_iconst hC dX5_statement_291 (q := 292) rfl (v := (1)) (by decide) ?_
        refine x_iadd hC dX5_statement_292 (q := 293) rfl ?_
        rw [nI_1]
        refine x_put hC (n := (70, 0)) xf_X5_291_2 xd_2 rfl dX5_statement_293 (q := 296) rfl hUz rfl rfl rfl ?_
        obtain ⟨ge, hge⟩ : ∃ ge, ge = xu gz (70, 0) (some (Z.2.1, tTown (tMore τ) fob laz lkz)) := ⟨_, rfl⟩
        refine x_geq (g' := ge) (by rw [hge]; rfl) ?_
        have hIe : TI s0 ge Z tx A V B d0 Nm (tMore τ) (fun i => if i = 2 then some r0.1 else F i) := by
          rw [hge]
          exact TI.town (hEb.px hxz) hS (hzb.pf (PF.px (N := 0) hxz)) (hFb.px hxz) (hNb.ext (TF.px hxz)) hTz hUz ⟨rfl, rfl, rfl, rfl, rfl⟩ (fun j hj => (hfb j hj).ext (Nat.le_refl _) (fun i _ => hxz _ (n_fst rfl) (n_fst rfl) (n_fst rfl)))
        have hse : PSt ge sc Z tx 2 5 0 false ts := by rw [hge]; exact hsz.f0 (xu_ne (n_fst rfl))
        have hRe : FX rdP g ge := by rw [hge]; exact (hRb.trans (FX.pxr hxz)).u 70 0 rfl _
        exact x_vret hC hr dX5_statement_296 (by (try dsimp only); omega) (by (try dsimp only); omega) ⟨Nm, 2, 5, rfl, hNm, hIe, hse, hRe⟩
      · exact absurd rfl h67
    · exact absurd rfl h49
  · exact absurd rfl h31

set_option maxHeartbeats 4000000 in
set_option maxRecDepth 100000 in
theorem m_X5_statement_sticks {l : Launch} {s0 : State} {D : va_G} (h0 : x0 l s0 D) (g : xG) {sc : Nat} {Z : Nat × Nat × Nat} {tx : List Nat} {A V B : Nat → Nat} {d0 N fr to : Nat} {τ : tS} {F : Nat → Option (aEnv → Int64)} (hI : TI s0 g Z tx A V B d0 N τ F) (hst : tst τ < 80) {ts : List Tk} {sn : Bool} {tk : List Tk} {r0 : pR} {lv : Nat} (hp0 : (pLv 6 7 lv).2 tk = some r0) (hr0 : r0.2.2 = (3, [59]) :: ts) (hdp : r0.2.1 ≤ 6) (hlv : lv ≤ 2) (hFn : F 3 = none) (hq : PSt g sc Z tx fr to 0 sn ((1, cW 15) :: tk)) : xMet l s0 D yX5_statement cX5_statement 2 none ((xr 60 (24 + 20 * (tk.length - r0.2.2.length)) (400 + 5000 * (tk.length - r0.2.2.length)) 2000)) [.ref sc] g (fun r g1 => ∃ N1 fr1 to1, r = none ∧ N ≤ N1 ∧ TI s0 g1 Z tx A V B d0 N1 (tMore τ) (fun i => if i = 3 then some r0.1 else F i) ∧ PSt g1 sc Z tx fr1 to1 0 false ts ∧ FX rdP g g1) := by
  refine xMet.of h0 (by decide +kernel) rfl ?_
  intro zp ze zs zm za zb zf zc hC hr hnm
  have hFn0 := hFn
  obtain ⟨hE, hS, hz, hF, hN, fo, ca, ka, pa, hT, hfm⟩ := hI
  have hs0 := hq
  obtain ⟨at0, bd0, pl0, nb0, wh0, sn0, sg0, wd0, hc0⟩ := hs0.sc
  have hpx0 : PX g g := PX.rfl
  have hlen := (pLen_Lv 6 7 lv).2 _ _ hp0
  refine x_aloadr_n hC dX5_statement_0 (q := 1) rfl rfl ?_
  refine x_callV hC xv_X5_86 dX5_statement_1 (q := 4) rfl rfl (m_X5_see h0 g hE hs0 (cz := 2) (sz := 20) (sR_f (by decide) (by decide) _)) (nn := (60, 0)) hc0 rfl rfl (Nat.le_of_ble_eq_true rfl) ⟨(by (try dsimp only); omega), (by (try dsimp only); omega)⟩ ⟨(by (try dsimp only); omega), (by (try dsimp only); omega)⟩ (fun v g1 hp => ?_)
  obtain ⟨rfl, hx1, hq1⟩ := hp
  have hpx1 := hpx0.trans hx1
  have hs1 : PSt g1 sc Z tx fr to 0 true ((1, cW 15) :: tk) := hq1
  obtain ⟨at1, bd1, pl1, nb1, wh1, sn1, sg1, wd1, hc1⟩ := hs1.sc
  have hTq := hT.ext (TF.px hpx1)
  obtain ⟨laq, lkq, hUq, -⟩ := hTq
  refine x_pop hC dX5_statement_4 (q := 5) rfl rfl ?_
  refine x_aloadr_n hC dX5_statement_5 (q := 6) rfl rfl ?_
  refine x_get hC xf_X5_43_4 dX5_statement_6 (q := 9) rfl (n := (60, 0)) hc1 rfl ?_
  refine x_istore_n hC dX5_statement_9 (q := 10) rfl rfl ?_
  refine x_aloadr_n hC dX5_statement_10 (q := 11) rfl rfl ?_
  refine x_aloadr_n hC dX5_statement_11 (q := 12) rfl rfl ?_
  refine x_get hC xf_X5_18_4 dX5_statement_12 (q := 15) rfl (n := (60, 0)) hc1 rfl ?_
  refine x_get hC xf_X5_291_2 dX5_statement_15 (q := 18) rfl (n := (70, 0)) hUq rfl ?_
  refine x_bipush hC dX5_statement_18 (q := 20) rfl (v := (80)) (by decide) ?_
  refine x_iload_n hC dX5_statement_20 (q := 21) rfl rfl ?_
  refine x_callV hC xv_X5_257 dX5_statement_21 (q := 24) rfl rfl (m_X5_space h0 _ sc (x := tst τ) (y := 80) (by omega) (by decide) (by omega) _) (nn := (60, 0)) hc1 rfl rfl (Nat.le_of_ble_eq_true rfl) ⟨(by (try dsimp only); omega), (by (try dsimp only); omega)⟩ ⟨(by (try dsimp only); omega), (by (try dsimp only); omega)⟩ (fun v g1 hp => ?_)
  obtain ⟨rfl, hg1⟩ := hp
  replace hg1 := hg1.symm
  subst hg1
  refine x_aloadr_n hC dX5_statement_24 (q := 25) rfl rfl ?_
  refine x_ldcwS hC (xk_1 h0 hS) dX5_statement_25 (q := 28) rfl ?_
  refine x_callV hC xv_X5_106 dX5_statement_28 (q := 31) rfl rfl (m_X5_takes h0 _ hS (hE.px hpx1) hs1 1 rfl (cz := 0) (sz := 0) sR_t) (nn := (60, 0)) hc1 rfl rfl (Nat.le_of_ble_eq_true rfl) ⟨(by (try dsimp only); omega), (by (try dsimp only); omega)⟩ ⟨(by (try dsimp only); omega), (by (try dsimp only); omega)⟩ (fun v g2 hp => ?_)
  rw [hdW_n (by decide +kernel)] at hp
  obtain ⟨rfl, hx2, hq2⟩ := hp
  have hpx2 := hpx1.trans hx2
  have hs2 : PSt g2 sc Z tx fr to 0 true ((1, cW 15) :: tk) := hq2
  obtain ⟨at2, bd2, pl2, nb2, wh2, sn2, sg2, wd2, hc2⟩ := hs2.sc
  refine x_if_eq hC dX5_statement_31 (q := 34) rfl (tgt := 42) rfl (fun h31 => ?_) (fun h31 => ?_)
  · refine x_aloadr_n hC dX5_statement_42 (q := 43) rfl rfl ?_
    refine x_ldcwS hC (xk_4 h0 hS) dX5_statement_43 (q := 46) rfl ?_
    refine x_callV hC xv_X5_106 dX5_statement_46 (q := 49) rfl rfl (m_X5_takes h0 _ hS (hE.px hpx2) hs2 4 rfl (cz := 0) (sz := 0) sR_t) (nn := (60, 0)) hc2 rfl rfl (Nat.le_of_ble_eq_true rfl) ⟨(by (try dsimp only); omega), (by (try dsimp only); omega)⟩ ⟨(by (try dsimp only); omega), (by (try dsimp only); omega)⟩ (fun v g3 hp => ?_)
    rw [hdW_n (by decide +kernel)] at hp
    obtain ⟨rfl, hx3, hq3⟩ := hp
    have hpx3 := hpx2.trans hx3
    have hs3 : PSt g3 sc Z tx fr to 0 true ((1, cW 15) :: tk) := hq3
    obtain ⟨at3, bd3, pl3, nb3, wh3, sn3, sg3, wd3, hc3⟩ := hs3.sc
    refine x_if_eq hC dX5_statement_49 (q := 52) rfl (tgt := 60) rfl (fun h49 => ?_) (fun h49 => ?_)
    · refine x_aloadr_n hC dX5_statement_60 (q := 61) rfl rfl ?_
      refine x_ldcwS hC (xk_6 h0 hS) dX5_statement_61 (q := 64) rfl ?_
      refine x_callV hC xv_X5_106 dX5_statement_64 (q := 67) rfl rfl (m_X5_takes h0 _ hS (hE.px hpx3) hs3 6 rfl (cz := 0) (sz := 0) sR_t) (nn := (60, 0)) hc3 rfl rfl (Nat.le_of_ble_eq_true rfl) ⟨(by (try dsimp only); omega), (by (try dsimp only); omega)⟩ ⟨(by (try dsimp only); omega), (by (try dsimp only); omega)⟩ (fun v g4 hp => ?_)
      rw [hdW_n (by decide +kernel)] at hp
      obtain ⟨rfl, hx4, hq4⟩ := hp
      have hpx4 := hpx3.trans hx4
      have hs4 : PSt g4 sc Z tx fr to 0 true ((1, cW 15) :: tk) := hq4
      obtain ⟨at4, bd4, pl4, nb4, wh4, sn4, sg4, wd4, hc4⟩ := hs4.sc
      refine x_if_eq hC dX5_statement_67 (q := 70) rfl (tgt := 94) rfl (fun h67 => ?_) (fun h67 => ?_)
      · refine x_aloadr_n hC dX5_statement_94 (q := 95) rfl rfl ?_
        refine x_ldcwS hC (xk_14 h0 hS) dX5_statement_95 (q := 98) rfl ?_
        refine x_callV hC xv_X5_106 dX5_statement_98 (q := 101) rfl rfl (m_X5_takes h0 _ hS (hE.px hpx4) hs4 14 rfl (cz := 0) (sz := 0) sR_t) (nn := (60, 0)) hc4 rfl rfl (Nat.le_of_ble_eq_true rfl) ⟨(by (try dsimp only); omega), (by (try dsimp only); omega)⟩ ⟨(by (try dsimp only); omega), (by (try dsimp only); omega)⟩ (fun v g5 hp => ?_)
        rw [hdW_n (by decide +kernel)] at hp
        obtain ⟨rfl, hx5, hq5⟩ := hp
        have hpx5 := hpx4.trans hx5
        have hs5 : PSt g5 sc Z tx fr to 0 true ((1, cW 15) :: tk) := hq5
        obtain ⟨at5, bd5, pl5, nb5, wh5, sn5, sg5, wd5, hc5⟩ := hs5.sc
        refine x_if_eq hC dX5_statement_101 (q := 104) rfl (tgt := 128) rfl (fun h101 => ?_) (fun h101 => ?_)
        · refine x_aloadr_n hC dX5_statement_128 (q := 129) rfl rfl ?_
          refine x_ldcwS hC (xk_15 h0 hS) dX5_statement_129 (q := 132) rfl ?_
          refine x_callV hC xv_X5_106 dX5_statement_132 (q := 135) rfl rfl (m_X5_takes h0 _ hS (hE.px hpx5) hs5 15 rfl (cz := 0) (sz := 0) sR_t) (nn := (60, 0)) hc5 rfl rfl (Nat.le_of_ble_eq_true rfl) ⟨(by (try dsimp only); omega), (by (try dsimp only); omega)⟩ ⟨(by (try dsimp only); omega), (by (try dsimp only); omega)⟩ (fun v g6 hp => ?_)
          rw [hdW_c] at hp
          obtain ⟨rfl, hx6, hq6⟩ := hp
          have hpx6 := hpx5.trans hx6
          have hs6 : PSt g6 sc Z tx fr to 0 false (tk) := hq6
          obtain ⟨at6, bd6, pl6, nb6, wh6, sn6, sg6, wd6, hc6⟩ := hs6.sc
          have hEn := hE.px hpx6
          have hzn := hz.pf (PF.px (N := 0) hpx6)
          have hFn := hF.px hpx6
          have hNn := hN.ext (TF.px hpx6)
          have hTn := hT.ext (TF.px hpx6)
          have hfn : ∀ j, j < 4 → tFm g6 N j (fo j) (F j) := fun j hj => (hfm j hj).ext (Nat.le_refl _) (fun i _ => hpx6 _ (n_fst rfl) (n_fst rfl) (n_fst rfl))
          refine x_if_eq hC dX5_statement_135 (q := 138) rfl (tgt := 164) rfl (fun h135 => ?_) (fun h135 => ?_)
          · exact absurd h135 (by decide)
          refine x_aloadr_n hC dX5_statement_138 (q := 139) rfl rfl ?_
          refine x_get hC xf_X5_18_4 dX5_statement_139 (q := 142) rfl (n := (60, 0)) hc6 rfl ?_
          have hTnn := hTn
          obtain ⟨lan, lkn, hUn, -⟩ := hTnn
          have hfo : fo 3 = none := by
            rcases hfn 3 (by decide) with q | ⟨_, _, _, q, _⟩
            · exact q.1
            · rw [hFn0] at q; cases q
          refine x_aloadr_n hC dX5_statement_142 (q := 143) rfl rfl ?_
          refine x_aloadr_n hC dX5_statement_143 (q := 144) rfl rfl ?_
          refine x_get hC xf_X5_18_4 dX5_statement_144 (q := 147) rfl (n := (60, 0)) hc6 rfl ?_
          refine x_get hC xf_X5_320_2 dX5_statement_147 (q := 150) rfl (n := (70, 0)) hUn rfl ?_
          rw [hfo]
          refine x_iload_n hC dX5_statement_150 (q := 151) rfl rfl ?_
          refine x_bipush hC dX5_statement_151 (q := 153) rfl (v := (6)) (by decide) ?_
          refine x_bipush hC dX5_statement_153 (q := 155) rfl (v := (7)) (by decide) ?_
          refine x_callV hC xv_X5_315 dX5_statement_155 (q := 158) rfl rfl (m_X5_test4 h0 ((c_Lv h0 (fr := 6) (to := 7) (by decide) (by decide) lv).2) g6 hs6 _ hEn hS hzn hFn (by omega) hp0 (by omega) (by omega)) (nn := (60, 0)) hc6 rfl rfl (Nat.le_of_ble_eq_true rfl) ⟨(by (try dsimp only); omega), (by (try dsimp only); omega)⟩ ⟨(by (try dsimp only); omega), (by (try dsimp only); omega)⟩ (fun v gm hp => ?_)
          obtain ⟨am, Nm, rfl, hNm, hpm, hFm, hsm, hRm⟩ := hp
          rw [hr0] at hsm
          have hTm := hTn.ext (TF.pf hpm)
          have hTmm := hTm
          obtain ⟨lam, lkm, hUm, -⟩ := hTmm
          refine x_put hC (n := (70, 0)) xf_X5_320_2 xd_2 rfl dX5_statement_158 (q := 161) rfl hUm rfl rfl rfl ?_
          obtain ⟨gb, hgb⟩ : ∃ gb, gb = xu gm (70, 0) (some (Z.2.1, tTown τ (fun i => if i = 3 then some am else fo i) lam lkm)) := ⟨_, rfl⟩
          refine x_geq (g' := gb) (by rw [hgb]; rfl) ?_
          have hIb : TI s0 gb Z tx A V B d0 Nm τ (fun i => if i = 3 then some r0.1 else F i) := by
            rw [hgb]
            refine TI.town (hEn.pf hpm) hS (hzn.pf hpm) hFm (hNn.ext (TF.pf hpm)) hTm hUm ⟨rfl, rfl, rfl, rfl, rfl⟩ (fun i hi => ?_)
            by_cases e : i = 3
            · subst e
              exact Or.inr ⟨am, r0.1, if_pos rfl, if_pos rfl, aR_into hRm (Nat.zero_le _) (Nat.le_refl _) hdp (fun _ _ _ => rfl)⟩
            · rw [if_neg e, if_neg e]
              exact (hfn i hi).ext hNm (fun i q => hpm.at q)
          obtain ⟨hEb, -, hzb, hFb, hNb, fob, cab, kab, pab, hTb, hfb⟩ := hIb
          have hsb : PSt gb sc Z tx 6 7 0 true ((3, [59]) :: ts) := by rw [hgb]; exact hsm.pf (N := 0) (xu_ne (n_fst rfl)) (xu_ne (n_fst rfl)) (xu_ne (n_fst rfl))
          have hRb : FX rdP g gb := by rw [hgb]; exact ((FX.pxr hpx6).trans (FX.pf hpm)).u 70 0 rfl _
          obtain ⟨at9, bd9, pl9, nb9, wh9, sn9, sg9, wd9, hc9⟩ := hsb.sc
          refine x_goto hC dX5_statement_161 (tgt := 277) rfl ?_
          refine x_aloadr_n hC dX5_statement_277 (q := 278) rfl rfl ?_
          refine x_bipush hC dX5_statement_278 (q := 280) rfl (v := (59)) (by decide) ?_
          refine x_callV hC xv_X5_122 dX5_statement_280 (q := 283) rfl rfl (m_X5_asks_2 h0 _ (c := 59) (by decide) hEb hsb (cz := 2) (sz := 20) (sR_f (by decide) (by decide) _)) (nn := (60, 0)) hc9 rfl rfl (Nat.le_of_ble_eq_true rfl) ⟨(by (try dsimp only); omega), (by (try dsimp only); omega)⟩ ⟨(by (try dsimp only); omega), (by (try dsimp only); omega)⟩ (fun v gz hp => ?_)
          obtain ⟨rfl, hxz, hsz⟩ := hp
          have hTz := hTb.ext (TF.px hxz)
          have hTzz := hTz
          obtain ⟨laz, lkz, hUz, -⟩ := hTzz
          obtain ⟨atz, bdz, plz, nbz, whz, snz, sgz, wdz, hcz⟩ := hsz.sc
          refine x_aloadr_n hC dX5_statement_283 (q := 284) rfl rfl ?_
          refine x_get hC xf_X5_18_4 dX5_statement_284 (q := 287) rfl (n := (60, 0)) hcz rfl ?_
          refine x_dup hC dX5_statement_287 (q := 288) rfl rfl ?_
          refine x_get hC xf_X5_291_2 dX5_statement_288 (q := 291) rfl (n := (70, 0)) hUz rfl ?_
          refine x_iconst hC dX5_statement_291 (q := 292) rfl (v := (1)) (by decide) ?_
          refine x_iadd hC dX5_statement_292 (q := 293) rfl ?_
          rw [nI_1]
          refine x_put hC (n := (70, 0)) xf_X5_291_2 xd_2 rfl dX5_statement_293 (q := 296) rfl hUz rfl rfl rfl ?_
          obtain ⟨ge, hge⟩ : ∃ ge, ge = xu gz (70, 0) (some (Z.2.1, tTown (tMore τ) fob laz lkz)) := ⟨_, rfl⟩
          refine x_geq (g' := ge) (by rw [hge]; rfl) ?_
          have hIe : TI s0 ge Z tx A V B d0 Nm (tMore τ) (fun i => if i = 3 then some r0.1 else F i) := by
            rw [hge]
            exact TI.town (hEb.px hxz) hS (hzb.pf (PF.px (N := 0) hxz)) (hFb.px hxz) (hNb.ext (TF.px hxz)) hTz hUz ⟨rfl, rfl, rfl, rfl, rfl⟩ (fun j hj => (hfb j hj).ext (Nat.le_refl _) (fun i _ => hxz _ (n_fst rfl) (n_fst rfl) (n_fst rfl)))
          have hse : PSt ge sc Z tx 6 7 0 false ts := by rw [hge]; exact hsz.f0 (xu_ne (n_fst rfl))
          have hRe : FX rdP g ge := by rw [hge]; exact (hRb.trans (FX.pxr hxz)).u 70 0 rfl _
          exact x_vret hC hr dX5_statement_296 (by (try dsimp only); omega) (by (try dsimp only); omega) ⟨Nm, 6, 7, rfl, hNm, hIe, hse, hRe⟩
        · exact absurd rfl h101
      · exact absurd rfl h67
    · exact absurd rfl h49
  · exact absurd rfl h31

set_option maxHeartbeats 4000000 in
set_option maxRecDepth 100000 in
theorem m_X5_statement_burns {l : Launch} {s0 : State} {D : va_G} (h0 : x0 l s0 D) (g : xG) {sc : Nat} {Z : Nat × Nat × Nat} {tx : List Nat} {A V B : Nat → Nat} {d0 N fr to : Nat} {τ : tS} {F : Nat → Option (aEnv → Int64)} (hI : TI s0 g Z tx A V B d0 N τ F) (hst : tst τ < 80) {ts : List Tk} {sn : Bool} {tk : List Tk} {r0 : pR} {lv : Nat} (hp0 : (pLv 8 9 lv).1 tk = some r0) (hr0 : r0.2.2 = (3, [59]) :: ts) (hdp : r0.2.1 ≤ 6) (hlv : lv ≤ 2) (hFn : F 1 = none) (hq : PSt g sc Z tx fr to 0 sn ((1, cW 16) :: tk)) : xMet l s0 D yX5_statement cX5_statement 2 none ((xr 60 (24 + 20 * (tk.length - r0.2.2.length)) (400 + 5000 * (tk.length - r0.2.2.length)) 2000)) [.ref sc] g (fun r g1 => ∃ N1 fr1 to1, r = none ∧ N ≤ N1 ∧ TI s0 g1 Z tx A V B d0 N1 (tMore τ) (fun i => if i = 1 then some r0.1 else F i) ∧ PSt g1 sc Z tx fr1 to1 0 false ts ∧ FX rdP g g1) := by
  refine xMet.of h0 (by decide +kernel) rfl ?_
  intro zp ze zs zm za zb zf zc hC hr hnm
  have hFn0 := hFn
  obtain ⟨hE, hS, hz, hF, hN, fo, ca, ka, pa, hT, hfm⟩ := hI
  have hs0 := hq
  obtain ⟨at0, bd0, pl0, nb0, wh0, sn0, sg0, wd0, hc0⟩ := hs0.sc
  have hpx0 : PX g g := PX.rfl
  have hlen := (pLen_Lv 8 9 lv).1 _ _ hp0
  refine x_aloadr_n hC dX5_statement_0 (q := 1) rfl rfl ?_
  refine x_callV hC xv_X5_86 dX5_statement_1 (q := 4) rfl rfl (m_X5_see h0 g hE hs0 (cz := 2) (sz := 20) (sR_f (by decide) (by decide) _)) (nn := (60, 0)) hc0 rfl rfl (Nat.le_of_ble_eq_true rfl) ⟨(by (try dsimp only); omega), (by (try dsimp only); omega)⟩ ⟨(by (try dsimp only); omega), (by (try dsimp only); omega)⟩ (fun v g1 hp => ?_)
  obtain ⟨rfl, hx1, hq1⟩ := hp
  have hpx1 := hpx0.trans hx1
  have hs1 : PSt g1 sc Z tx fr to 0 true ((1, cW 16) :: tk) := hq1
  obtain ⟨at1, bd1, pl1, nb1, wh1, sn1, sg1, wd1, hc1⟩ := hs1.sc
  have hTq := hT.ext (TF.px hpx1)
  obtain ⟨laq, lkq, hUq, -⟩ := hTq
  refine x_pop hC dX5_statement_4 (q := 5) rfl rfl ?_
  refine x_aloadr_n hC dX5_statement_5 (q := 6) rfl rfl ?_
  refine x_get hC xf_X5_43_4 dX5_statement_6 (q := 9) rfl (n := (60, 0)) hc1 rfl ?_
  refine x_istore_n hC dX5_statement_9 (q := 10) rfl rfl ?_
  refine x_aloadr_n hC dX5_statement_10 (q := 11) rfl rfl ?_
  refine x_aloadr_n hC dX5_statement_11 (q := 12) rfl rfl ?_
  refine x_get hC xf_X5_18_4 dX5_statement_12 (q := 15) rfl (n := (60, 0)) hc1 rfl ?_
  refine x_get hC xf_X5_291_2 dX5_statement_15 (q := 18) rfl (n := (70, 0)) hUq rfl ?_
  refine x_bipush hC dX5_statement_18 (q := 20) rfl (v := (80)) (by decide) ?_
  refine x_iload_n hC dX5_statement_20 (q := 21) rfl rfl ?_
  refine x_callV hC xv_X5_257 dX5_statement_21 (q := 24) rfl rfl (m_X5_space h0 _ sc (x := tst τ) (y := 80) (by omega) (by decide) (by omega) _) (nn := (60, 0)) hc1 rfl rfl (Nat.le_of_ble_eq_true rfl) ⟨(by (try dsimp only); omega), (by (try dsimp only); omega)⟩ ⟨(by (try dsimp only); omega), (by (try dsimp only); omega)⟩ (fun v g1 hp => ?_)
  obtain ⟨rfl, hg1⟩ := hp
  replace hg1 := hg1.symm
  subst hg1
  refine x_aloadr_n hC dX5_statement_24 (q := 25) rfl rfl ?_
  refine x_ldcwS hC (xk_1 h0 hS) dX5_statement_25 (q := 28) rfl ?_
  refine x_callV hC xv_X5_106 dX5_statement_28 (q := 31) rfl rfl (m_X5_takes h0 _ hS (hE.px hpx1) hs1 1 rfl (cz := 0) (sz := 0) sR_t) (nn := (60, 0)) hc1 rfl rfl (Nat.le_of_ble_eq_true rfl) ⟨(by (try dsimp only); omega), (by (try dsimp only); omega)⟩ ⟨(by (try dsimp only); omega), (by (try dsimp only); omega)⟩ (fun v g2 hp => ?_)
  rw [hdW_n (by decide +kernel)] at hp
  obtain ⟨rfl, hx2, hq2⟩ := hp
  have hpx2 := hpx1.trans hx2
  have hs2 : PSt g2 sc Z tx fr to 0 true ((1, cW 16) :: tk) := hq2
  obtain ⟨at2, bd2, pl2, nb2, wh2, sn2, sg2, wd2, hc2⟩ := hs2.sc
  refine x_if_eq hC dX5_statement_31 (q := 34) rfl (tgt := 42) rfl (fun h31 => ?_) (fun h31 => ?_)
  · refine x_aloadr_n hC dX5_statement_42 (q := 43) rfl rfl ?_
    refine x_ldcwS hC (xk_4 h0 hS) dX5_statement_43 (q := 46) rfl ?_
    refine x_callV hC xv_X5_106 dX5_statement_46 (q := 49) rfl rfl (m_X5_takes h0 _ hS (hE.px hpx2) hs2 4 rfl (cz := 0) (sz := 0) sR_t) (nn := (60, 0)) hc2 rfl rfl (Nat.le_of_ble_eq_true rfl) ⟨(by (try dsimp only); omega), (by (try dsimp only); omega)⟩ ⟨(by (try dsimp only); omega), (by (try dsimp only); omega)⟩ (fun v g3 hp => ?_)
    rw [hdW_n (by decide +kernel)] at hp
    obtain ⟨rfl, hx3, hq3⟩ := hp
    have hpx3 := hpx2.trans hx3
    have hs3 : PSt g3 sc Z tx fr to 0 true ((1, cW 16) :: tk) := hq3
    obtain ⟨at3, bd3, pl3, nb3, wh3, sn3, sg3, wd3, hc3⟩ := hs3.sc
    refine x_if_eq hC dX5_statement_49 (q := 52) rfl (tgt := 60) rfl (fun h49 => ?_) (fun h49 => ?_)
    · refine x_aloadr_n hC dX5_statement_60 (q := 61) rfl rfl ?_
      refine x_ldcwS hC (xk_6 h0 hS) dX5_statement_61 (q := 64) rfl ?_
      refine x_callV hC xv_X5_106 dX5_statement_64 (q := 67) rfl rfl (m_X5_takes h0 _ hS (hE.px hpx3) hs3 6 rfl (cz := 0) (sz := 0) sR_t) (nn := (60, 0)) hc3 rfl rfl (Nat.le_of_ble_eq_true rfl) ⟨(by (try dsimp only); omega), (by (try dsimp only); omega)⟩ ⟨(by (try dsimp only); omega), (by (try dsimp only); omega)⟩ (fun v g4 hp => ?_)
      rw [hdW_n (by decide +kernel)] at hp
      obtain ⟨rfl, hx4, hq4⟩ := hp
      have hpx4 := hpx3.trans hx4
      have hs4 : PSt g4 sc Z tx fr to 0 true ((1, cW 16) :: tk) := hq4
      obtain ⟨at4, bd4, pl4, nb4, wh4, sn4, sg4, wd4, hc4⟩ := hs4.sc
      refine x_if_eq hC dX5_statement_67 (q := 70) rfl (tgt := 94) rfl (fun h67 => ?_) (fun h67 => ?_)
      · refine x_aloadr_n hC dX5_statement_94 (q := 95) rfl rfl ?_
        refine x_ldcwS hC (xk_14 h0 hS) dX5_statement_95 (q := 98) rfl ?_
        refine x_callV hC xv_X5_106 dX5_statement_98 (q := 101) rfl rfl (m_X5_takes h0 _ hS (hE.px hpx4) hs4 14 rfl (cz := 0) (sz := 0) sR_t) (nn := (60, 0)) hc4 rfl rfl (Nat.le_of_ble_eq_true rfl) ⟨(by (try dsimp only); omega), (by (try dsimp only); omega)⟩ ⟨(by (try dsimp only); omega), (by (try dsimp only); omega)⟩ (fun v g5 hp => ?_)
        rw [hdW_n (by decide +kernel)] at hp
        obtain ⟨rfl, hx5, hq5⟩ := hp
        have hpx5 := hpx4.trans hx5
        have hs5 : PSt g5 sc Z tx fr to 0 true ((1, cW 16) :: tk) := hq5
        obtain ⟨at5, bd5, pl5, nb5, wh5, sn5, sg5, wd5, hc5⟩ := hs5.sc
        refine x_if_eq hC dX5_statement_101 (q := 104) rfl (tgt := 128) rfl (fun h101 => ?_) (fun h101 => ?_)
        · refine x_aloadr_n hC dX5_statement_128 (q := 129) rfl rfl ?_
          refine x_ldcwS hC (xk_15 h0 hS) dX5_statement_129 (q := 132) rfl ?_
          refine x_callV hC xv_X5_106 dX5_statement_132 (q := 135) rfl rfl (m_X5_takes h0 _ hS (hE.px hpx5) hs5 15 rfl (cz := 0) (sz := 0) sR_t) (nn := (60, 0)) hc5 rfl rfl (Nat.le_of_ble_eq_true rfl) ⟨(by (try dsimp only); omega), (by (try dsimp only); omega)⟩ ⟨(by (try dsimp only); omega), (by (try dsimp only); omega)⟩ (fun v g6 hp => ?_)
          rw [hdW_n (by decide +kernel)] at hp
          obtain ⟨rfl, hx6, hq6⟩ := hp
          have hpx6 := hpx5.trans hx6
          have hs6 : PSt g6 sc Z tx fr to 0 true ((1, cW 16) :: tk) := hq6
          obtain ⟨at6, bd6, pl6, nb6, wh6, sn6, sg6, wd6, hc6⟩ := hs6.sc
          refine x_if_eq hC dX5_statement_135 (q := 138) rfl (tgt := 164) rfl (fun h135 => ?_) (fun h135 => ?_)
          · refine x_aloadr_n hC dX5_statement_164 (q := 165) rfl rfl ?_
            refine x_ldcwS hC (xk_16 h0 hS) dX5_statement_165 (q := 168) rfl ?_
            refine x_callV hC xv_X5_106 dX5_statement_168 (q := 171) rfl rfl (m_X5_takes h0 _ hS (hE.px hpx6) hs6 16 rfl (cz := 0) (sz := 0) sR_t) (nn := (60, 0)) hc6 rfl rfl (Nat.le_of_ble_eq_true rfl) ⟨(by (try dsimp only); omega), (by (try dsimp only); omega)⟩ ⟨(by (try dsimp only); omega), (by (try dsimp only); omega)⟩ (fun v g7 hp => ?_)
            rw [hdW_c] at hp
            obtain ⟨rfl, hx7, hq7⟩ := hp
            have hpx7 := hpx6.trans hx7
            have hs7 : PSt g7 sc Z tx fr to 0 false (tk) := hq7
            obtain ⟨at7, bd7, pl7, nb7, wh7, sn7, sg7, wd7, hc7⟩ := hs7.sc
            have hEn := hE.px hpx7
            have hzn := hz.pf (PF.px (N := 0) hpx7)
            have hFn := hF.px hpx7
            have hNn := hN.ext (TF.px hpx7)
            have hTn := hT.ext (TF.px hpx7)
            have hfn : ∀ j, j < 4 → tFm g7 N j (fo j) (F j) := fun j hj => (hfm j hj).ext (Nat.le_refl _) (fun i _ => hpx7 _ (n_fst rfl) (n_fst rfl) (n_fst rfl))
            refine x_if_eq hC dX5_statement_171 (q := 174) rfl (tgt := 200) rfl (fun h171 => ?_) (fun h171 => ?_)
            · exact absurd h171 (by decide)
            refine x_aloadr_n hC dX5_statement_174 (q := 175) rfl rfl ?_
            refine x_get hC xf_X5_18_4 dX5_statement_175 (q := 178) rfl (n := (60, 0)) hc7 rfl ?_
            have hTnn := hTn
            obtain ⟨lan, lkn, hUn, -⟩ := hTnn
            have hfo : fo 1 = none := by
              rcases hfn 1 (by decide) with q | ⟨_, _, _, q, _⟩
              · exact q.1
              · rw [hFn0] at q; cases q
            refine x_aloadr_n hC dX5_statement_178 (q := 179) rfl rfl ?_
            refine x_aloadr_n hC dX5_statement_179 (q := 180) rfl rfl ?_
            refine x_get hC xf_X5_18_4 dX5_statement_180 (q := 183) rfl (n := (60, 0)) hc7 rfl ?_
            refine x_get hC xf_X5_324_2 dX5_statement_183 (q := 186) rfl (n := (70, 0)) hUn rfl ?_
            rw [hfo]
            refine x_iload_n hC dX5_statement_186 (q := 187) rfl rfl ?_
            refine x_bipush hC dX5_statement_187 (q := 189) rfl (v := (8)) (by decide) ?_
            refine x_bipush hC dX5_statement_189 (q := 191) rfl (v := (9)) (by decide) ?_
            refine x_callV hC xv_X5_307 dX5_statement_191 (q := 194) rfl rfl (m_X5_sum4 h0 ((c_Lv h0 (fr := 8) (to := 9) (by decide) (by decide) lv).1) g7 hs7 _ hEn hS hzn hFn (by omega) hp0 (by omega) (by omega)) (nn := (60, 0)) hc7 rfl rfl (Nat.le_of_ble_eq_true rfl) ⟨(by (try dsimp only); omega), (by (try dsimp only); omega)⟩ ⟨(by (try dsimp only); omega), (by (try dsimp only); omega)⟩ (fun v gm hp => ?_)
            obtain ⟨am, Nm, rfl, hNm, hpm, hFm, hsm, hRm⟩ := hp
            rw [hr0] at hsm
            have hTm := hTn.ext (TF.pf hpm)
            have hTmm := hTm
            obtain ⟨lam, lkm, hUm, -⟩ := hTmm
            refine x_put hC (n := (70, 0)) xf_X5_324_2 xd_2 rfl dX5_statement_194 (q := 197) rfl hUm rfl rfl rfl ?_
            obtain ⟨gb, hgb⟩ : ∃ gb, gb = xu gm (70, 0) (some (Z.2.1, tTown τ (fun i => if i = 1 then some am else fo i) lam lkm)) := ⟨_, rfl⟩
            refine x_geq (g' := gb) (by rw [hgb]; rfl) ?_
            have hIb : TI s0 gb Z tx A V B d0 Nm τ (fun i => if i = 1 then some r0.1 else F i) := by
              rw [hgb]
              refine TI.town (hEn.pf hpm) hS (hzn.pf hpm) hFm (hNn.ext (TF.pf hpm)) hTm hUm ⟨rfl, rfl, rfl, rfl, rfl⟩ (fun i hi => ?_)
              by_cases e : i = 1
              · subst e
                exact Or.inr ⟨am, r0.1, if_pos rfl, if_pos rfl, aR_into hRm (Nat.zero_le _) (Nat.le_refl _) hdp (fun _ _ _ => rfl)⟩
              · rw [if_neg e, if_neg e]
                exact (hfn i hi).ext hNm (fun i q => hpm.at q)
            obtain ⟨hEb, -, hzb, hFb, hNb, fob, cab, kab, pab, hTb, hfb⟩ := hIb
            have hsb : PSt gb sc Z tx 8 9 0 true ((3, [59]) :: ts) := by rw [hgb]; exact hsm.pf (N := 0) (xu_ne (n_fst rfl)) (xu_ne (n_fst rfl)) (xu_ne (n_fst rfl))
            have hRb : FX rdP g gb := by rw [hgb]; exact ((FX.pxr hpx7).trans (FX.pf hpm)).u 70 0 rfl _
            obtain ⟨at9, bd9, pl9, nb9, wh9, sn9, sg9, wd9, hc9⟩ := hsb.sc
            refine x_goto hC dX5_statement_197 (tgt := 277) rfl ?_
            refine x_aloadr_n hC dX5_statement_277 (q := 278) rfl rfl ?_
            refine x_bipush hC dX5_statement_278 (q := 280) rfl (v := (59)) (by decide) ?_
            refine x_callV hC xv_X5_122 dX5_statement_280 (q := 283) rfl rfl (m_X5_asks_2 h0 _ (c := 59) (by decide) hEb hsb (cz := 2) (sz := 20) (sR_f (by decide) (by decide) _)) (nn := (60, 0)) hc9 rfl rfl (Nat.le_of_ble_eq_true rfl) ⟨(by (try dsimp only); omega), (by (try dsimp only); omega)⟩ ⟨(by (try dsimp only); omega), (by (try dsimp only); omega)⟩ (fun v gz hp => ?_)
            obtain ⟨rfl, hxz, hsz⟩ := hp
            have hTz := hTb.ext (TF.px hxz)
            have hTzz := hTz
            obtain ⟨laz, lkz, hUz, -⟩ := hTzz
            obtain ⟨atz, bdz, plz, nbz, whz, snz, sgz, wdz, hcz⟩ := hsz.sc
            refine x_aloadr_n hC dX5_statement_283 (q := 284) rfl rfl ?_
            refine x_get hC xf_X5_18_4 dX5_statement_284 (q := 287) rfl (n := (60, 0)) hcz rfl ?_
            refine x_dup hC dX5_statement_287 (q := 288) rfl rfl ?_
            refine x_get hC xf_X5_291_2 dX5_statement_288 (q := 291) rfl (n := (70, 0)) hUz rfl ?_
            refine x_iconst hC dX5_statement_291 (q := 292) rfl (v := (1)) (by decide) ?_
            refine x_iadd hC dX5_statement_292 (q := 293) rfl ?_
            rw [nI_1]
            refine x_put hC (n := (70, 0)) xf_X5_291_2 xd_2 rfl dX5_statement_293 (q := 296) rfl hUz rfl rfl rfl ?_
            obtain ⟨ge, hge⟩ : ∃ ge, ge = xu gz (70, 0) (some (Z.2.1, tTown (tMore τ) fob laz lkz)) := ⟨_, rfl⟩
            refine x_geq (g' := ge) (by rw [hge]; rfl) ?_
            have hIe : TI s0 ge Z tx A V B d0 Nm (tMore τ) (fun i => if i = 1 then some r0.1 else F i) := by
              rw [hge]
              exact TI.town (hEb.px hxz) hS (hzb.pf (PF.px (N := 0) hxz)) (hFb.px hxz) (hNb.ext (TF.px hxz)) hTz hUz ⟨rfl, rfl, rfl, rfl, rfl⟩ (fun j hj => (hfb j hj).ext (Nat.le_refl _) (fun i _ => hxz _ (n_fst rfl) (n_fst rfl) (n_fst rfl)))
            have hse : PSt ge sc Z tx 8 9 0 false ts := by rw [hge]; exact hsz.f0 (xu_ne (n_fst rfl))
            have hRe : FX rdP g ge := by rw [hge]; exact (hRb.trans (FX.pxr hxz)).u 70 0 rfl _
            exact x_vret hC hr dX5_statement_296 (by (try dsimp only); omega) (by (try dsimp only); omega) ⟨Nm, 8, 9, rfl, hNm, hIe, hse, hRe⟩
          · exact absurd rfl h135
        · exact absurd rfl h101
      · exact absurd rfl h67
    · exact absurd rfl h49
  · exact absurd rfl h31

set_option maxHeartbeats 4000000 in
set_option maxRecDepth 100000 in
theorem m_X5_statement_fuel {l : Launch} {s0 : State} {D : va_G} (h0 : x0 l s0 D) (g : xG) {sc : Nat} {Z : Nat × Nat × Nat} {tx : List Nat} {A V B : Nat → Nat} {d0 N fr to : Nat} {τ : tS} {F : Nat → Option (aEnv → Int64)} (hI : TI s0 g Z tx A V B d0 N τ F) (hst : tst τ < 80) {ts : List Tk} {sn : Bool} {w1 : List Nat} (hb1 : sN w1 ≤ 999) (hq : PSt g sc Z tx fr to 0 sn ((1, cW 17) :: (2, w1) :: (3, [59]) :: ts)) : xMet l s0 D yX5_statement cX5_statement 2 none ((xr 60 24 400 2000)) [.ref sc] g (fun r g1 => ∃ N1 fr1 to1, r = none ∧ N ≤ N1 ∧ TI s0 g1 Z tx A V B d0 N1 (tMore (tNumS τ 0 (sN w1))) F ∧ PSt g1 sc Z tx fr1 to1 0 false ts ∧ FX rdP g g1) := by
  refine xMet.of h0 (by decide +kernel) rfl ?_
  intro zp ze zs zm za zb zf zc hC hr hnm
  obtain ⟨hE, hS, hz, hF, hN, fo, ca, ka, pa, hT, hfm⟩ := hI
  have hs0 := hq
  obtain ⟨at0, bd0, pl0, nb0, wh0, sn0, sg0, wd0, hc0⟩ := hs0.sc
  have hpx0 : PX g g := PX.rfl
  refine x_aloadr_n hC dX5_statement_0 (q := 1) rfl rfl ?_
  refine x_callV hC xv_X5_86 dX5_statement_1 (q := 4) rfl rfl (m_X5_see h0 g hE hs0 (cz := 2) (sz := 20) (sR_f (by decide) (by decide) _)) (nn := (60, 0)) hc0 rfl rfl (Nat.le_of_ble_eq_true rfl) ⟨(by (try dsimp only); omega), (by (try dsimp only); omega)⟩ ⟨(by (try dsimp only); omega), (by (try dsimp only); omega)⟩ (fun v g1 hp => ?_)
  obtain ⟨rfl, hx1, hq1⟩ := hp
  have hpx1 := hpx0.trans hx1
  have hs1 : PSt g1 sc Z tx fr to 0 true ((1, cW 17) :: (2, w1) :: (3, [59]) :: ts) := hq1
  obtain ⟨at1, bd1, pl1, nb1, wh1, sn1, sg1, wd1, hc1⟩ := hs1.sc
  have hTq := hT.ext (TF.px hpx1)
  obtain ⟨laq, lkq, hUq, -⟩ := hTq
  refine x_pop hC dX5_statement_4 (q := 5) rfl rfl ?_
  refine x_aloadr_n hC dX5_statement_5 (q := 6) rfl rfl ?_
  refine x_get hC xf_X5_43_4 dX5_statement_6 (q := 9) rfl (n := (60, 0)) hc1 rfl ?_
  refine x_istore_n hC dX5_statement_9 (q := 10) rfl rfl ?_
  refine x_aloadr_n hC dX5_statement_10 (q := 11) rfl rfl ?_
  refine x_aloadr_n hC dX5_statement_11 (q := 12) rfl rfl ?_
  refine x_get hC xf_X5_18_4 dX5_statement_12 (q := 15) rfl (n := (60, 0)) hc1 rfl ?_
  refine x_get hC xf_X5_291_2 dX5_statement_15 (q := 18) rfl (n := (70, 0)) hUq rfl ?_
  refine x_bipush hC dX5_statement_18 (q := 20) rfl (v := (80)) (by decide) ?_
  refine x_iload_n hC dX5_statement_20 (q := 21) rfl rfl ?_
  refine x_callV hC xv_X5_257 dX5_statement_21 (q := 24) rfl rfl (m_X5_space h0 _ sc (x := tst τ) (y := 80) (by omega) (by decide) (by omega) _) (nn := (60, 0)) hc1 rfl rfl (Nat.le_of_ble_eq_true rfl) ⟨(by (try dsimp only); omega), (by (try dsimp only); omega)⟩ ⟨(by (try dsimp only); omega), (by (try dsimp only); omega)⟩ (fun v g1 hp => ?_)
  obtain ⟨rfl, hg1⟩ := hp
  replace hg1 := hg1.symm
  subst hg1
  refine x_aloadr_n hC dX5_statement_24 (q := 25) rfl rfl ?_
  refine x_ldcwS hC (xk_1 h0 hS) dX5_statement_25 (q := 28) rfl ?_
  refine x_callV hC xv_X5_106 dX5_statement_28 (q := 31) rfl rfl (m_X5_takes h0 _ hS (hE.px hpx1) hs1 1 rfl (cz := 0) (sz := 0) sR_t) (nn := (60, 0)) hc1 rfl rfl (Nat.le_of_ble_eq_true rfl) ⟨(by (try dsimp only); omega), (by (try dsimp only); omega)⟩ ⟨(by (try dsimp only); omega), (by (try dsimp only); omega)⟩ (fun v g2 hp => ?_)
  rw [hdW_n (by decide +kernel)] at hp
  obtain ⟨rfl, hx2, hq2⟩ := hp
  have hpx2 := hpx1.trans hx2
  have hs2 : PSt g2 sc Z tx fr to 0 true ((1, cW 17) :: (2, w1) :: (3, [59]) :: ts) := hq2
  obtain ⟨at2, bd2, pl2, nb2, wh2, sn2, sg2, wd2, hc2⟩ := hs2.sc
  refine x_if_eq hC dX5_statement_31 (q := 34) rfl (tgt := 42) rfl (fun h31 => ?_) (fun h31 => ?_)
  · refine x_aloadr_n hC dX5_statement_42 (q := 43) rfl rfl ?_
    refine x_ldcwS hC (xk_4 h0 hS) dX5_statement_43 (q := 46) rfl ?_
    refine x_callV hC xv_X5_106 dX5_statement_46 (q := 49) rfl rfl (m_X5_takes h0 _ hS (hE.px hpx2) hs2 4 rfl (cz := 0) (sz := 0) sR_t) (nn := (60, 0)) hc2 rfl rfl (Nat.le_of_ble_eq_true rfl) ⟨(by (try dsimp only); omega), (by (try dsimp only); omega)⟩ ⟨(by (try dsimp only); omega), (by (try dsimp only); omega)⟩ (fun v g3 hp => ?_)
    rw [hdW_n (by decide +kernel)] at hp
    obtain ⟨rfl, hx3, hq3⟩ := hp
    have hpx3 := hpx2.trans hx3
    have hs3 : PSt g3 sc Z tx fr to 0 true ((1, cW 17) :: (2, w1) :: (3, [59]) :: ts) := hq3
    obtain ⟨at3, bd3, pl3, nb3, wh3, sn3, sg3, wd3, hc3⟩ := hs3.sc
    refine x_if_eq hC dX5_statement_49 (q := 52) rfl (tgt := 60) rfl (fun h49 => ?_) (fun h49 => ?_)
    · refine x_aloadr_n hC dX5_statement_60 (q := 61) rfl rfl ?_
      refine x_ldcwS hC (xk_6 h0 hS) dX5_statement_61 (q := 64) rfl ?_
      refine x_callV hC xv_X5_106 dX5_statement_64 (q := 67) rfl rfl (m_X5_takes h0 _ hS (hE.px hpx3) hs3 6 rfl (cz := 0) (sz := 0) sR_t) (nn := (60, 0)) hc3 rfl rfl (Nat.le_of_ble_eq_true rfl) ⟨(by (try dsimp only); omega), (by (try dsimp only); omega)⟩ ⟨(by (try dsimp only); omega), (by (try dsimp only); omega)⟩ (fun v g4 hp => ?_)
      rw [hdW_n (by decide +kernel)] at hp
      obtain ⟨rfl, hx4, hq4⟩ := hp
      have hpx4 := hpx3.trans hx4
      have hs4 : PSt g4 sc Z tx fr to 0 true ((1, cW 17) :: (2, w1) :: (3, [59]) :: ts) := hq4
      obtain ⟨at4, bd4, pl4, nb4, wh4, sn4, sg4, wd4, hc4⟩ := hs4.sc
      refine x_if_eq hC dX5_statement_67 (q := 70) rfl (tgt := 94) rfl (fun h67 => ?_) (fun h67 => ?_)
      · refine x_aloadr_n hC dX5_statement_94 (q := 95) rfl rfl ?_
        refine x_ldcwS hC (xk_14 h0 hS) dX5_statement_95 (q := 98) rfl ?_
        refine x_callV hC xv_X5_106 dX5_statement_98 (q := 101) rfl rfl (m_X5_takes h0 _ hS (hE.px hpx4) hs4 14 rfl (cz := 0) (sz := 0) sR_t) (nn := (60, 0)) hc4 rfl rfl (Nat.le_of_ble_eq_true rfl) ⟨(by (try dsimp only); omega), (by (try dsimp only); omega)⟩ ⟨(by (try dsimp only); omega), (by (try dsimp only); omega)⟩ (fun v g5 hp => ?_)
        rw [hdW_n (by decide +kernel)] at hp
        obtain ⟨rfl, hx5, hq5⟩ := hp
        have hpx5 := hpx4.trans hx5
        have hs5 : PSt g5 sc Z tx fr to 0 true ((1, cW 17) :: (2, w1) :: (3, [59]) :: ts) := hq5
        obtain ⟨at5, bd5, pl5, nb5, wh5, sn5, sg5, wd5, hc5⟩ := hs5.sc
        refine x_if_eq hC dX5_statement_101 (q := 104) rfl (tgt := 128) rfl (fun h101 => ?_) (fun h101 => ?_)
        · refine x_aloadr_n hC dX5_statement_128 (q := 129) rfl rfl ?_
          refine x_ldcwS hC (xk_15 h0 hS) dX5_statement_129 (q := 132) rfl ?_
          refine x_callV hC xv_X5_106 dX5_statement_132 (q := 135) rfl rfl (m_X5_takes h0 _ hS (hE.px hpx5) hs5 15 rfl (cz := 0) (sz := 0) sR_t) (nn := (60, 0)) hc5 rfl rfl (Nat.le_of_ble_eq_true rfl) ⟨(by (try dsimp only); omega), (by (try dsimp only); omega)⟩ ⟨(by (try dsimp only); omega), (by (try dsimp only); omega)⟩ (fun v g6 hp => ?_)
          rw [hdW_n (by decide +kernel)] at hp
          obtain ⟨rfl, hx6, hq6⟩ := hp
          have hpx6 := hpx5.trans hx6
          have hs6 : PSt g6 sc Z tx fr to 0 true ((1, cW 17) :: (2, w1) :: (3, [59]) :: ts) := hq6
          obtain ⟨at6, bd6, pl6, nb6, wh6, sn6, sg6, wd6, hc6⟩ := hs6.sc
          refine x_if_eq hC dX5_statement_135 (q := 138) rfl (tgt := 164) rfl (fun h135 => ?_) (fun h135 => ?_)
          · refine x_aloadr_n hC dX5_statement_164 (q := 165) rfl rfl ?_
            refine x_ldcwS hC (xk_16 h0 hS) dX5_statement_165 (q := 168) rfl ?_
            refine x_callV hC xv_X5_106 dX5_statement_168 (q := 171) rfl rfl (m_X5_takes h0 _ hS (hE.px hpx6) hs6 16 rfl (cz := 0) (sz := 0) sR_t) (nn := (60, 0)) hc6 rfl rfl (Nat.le_of_ble_eq_true rfl) ⟨(by (try dsimp only); omega), (by (try dsimp only); omega)⟩ ⟨(by (try dsimp only); omega), (by (try dsimp only); omega)⟩ (fun v g7 hp => ?_)
            rw [hdW_n (by decide +kernel)] at hp
            obtain ⟨rfl, hx7, hq7⟩ := hp
            have hpx7 := hpx6.trans hx7
            have hs7 : PSt g7 sc Z tx fr to 0 true ((1, cW 17) :: (2, w1) :: (3, [59]) :: ts) := hq7
            obtain ⟨at7, bd7, pl7, nb7, wh7, sn7, sg7, wd7, hc7⟩ := hs7.sc
            refine x_if_eq hC dX5_statement_171 (q := 174) rfl (tgt := 200) rfl (fun h171 => ?_) (fun h171 => ?_)
            · refine x_aloadr_n hC dX5_statement_200 (q := 201) rfl rfl ?_
              refine x_ldcwS hC (xk_17 h0 hS) dX5_statement_201 (q := 204) rfl ?_
              refine x_callV hC xv_X5_106 dX5_statement_204 (q := 207) rfl rfl (m_X5_takes h0 _ hS (hE.px hpx7) hs7 17 rfl (cz := 0) (sz := 0) sR_t) (nn := (60, 0)) hc7 rfl rfl (Nat.le_of_ble_eq_true rfl) ⟨(by (try dsimp only); omega), (by (try dsimp only); omega)⟩ ⟨(by (try dsimp only); omega), (by (try dsimp only); omega)⟩ (fun v g8 hp => ?_)
              rw [hdW_c] at hp
              obtain ⟨rfl, hx8, hq8⟩ := hp
              have hpx8 := hpx7.trans hx8
              have hs8 : PSt g8 sc Z tx fr to 0 false ((2, w1) :: (3, [59]) :: ts) := hq8
              obtain ⟨at8, bd8, pl8, nb8, wh8, sn8, sg8, wd8, hc8⟩ := hs8.sc
              have hEn := hE.px hpx8
              have hzn := hz.pf (PF.px (N := 0) hpx8)
              have hFn := hF.px hpx8
              have hNn := hN.ext (TF.px hpx8)
              have hTn := hT.ext (TF.px hpx8)
              have hfn : ∀ j, j < 4 → tFm g8 N j (fo j) (F j) := fun j hj => (hfm j hj).ext (Nat.le_refl _) (fun i _ => hpx8 _ (n_fst rfl) (n_fst rfl) (n_fst rfl))
              refine x_if_eq hC dX5_statement_207 (q := 210) rfl (tgt := 228) rfl (fun h207 => ?_) (fun h207 => ?_)
              · exact absurd h207 (by decide)
              refine x_aloadr_n hC dX5_statement_210 (q := 211) rfl rfl ?_
              refine x_get hC xf_X5_18_4 dX5_statement_211 (q := 214) rfl (n := (60, 0)) hc8 rfl ?_
              refine x_aloadr_n hC dX5_statement_214 (q := 215) rfl rfl ?_
              refine x_iconst hC dX5_statement_215 (q := 216) rfl (v := (0)) (by decide) ?_
              refine x_sipush hC dX5_statement_216 (q := 219) rfl (v := (999)) (by decide) ?_
              refine x_callV hC xv_X5_208 dX5_statement_219 (q := 222) rfl rfl (m_X5_number h0 _ (lo := 0) (hi := 999) hEn hs8 (Nat.zero_le _) hb1 (by decide) (cz := 2) (sz := 20) (sR_f (by decide) (by decide) _)) (nn := (60, 0)) hc8 rfl rfl (Nat.le_of_ble_eq_true rfl) ⟨(by (try dsimp only); omega), (by (try dsimp only); omega)⟩ ⟨(by (try dsimp only); omega), (by (try dsimp only); omega)⟩ (fun v gm hp => ?_)
              obtain ⟨rfl, hxm, hsm⟩ := hp
              have hTm := hTn.ext (TF.px hxm)
              have hTmm := hTm
              obtain ⟨lam, lkm, hUm, -⟩ := hTmm
              refine x_put hC (n := (70, 0)) xf_X5_328_2 xd_2 rfl dX5_statement_222 (q := 225) rfl hUm rfl rfl rfl ?_
              obtain ⟨gb, hgb⟩ : ∃ gb, gb = xu gm (70, 0) (some (Z.2.1, tTown (tNumS τ 0 (sN w1)) fo lam lkm)) := ⟨_, rfl⟩
              refine x_geq (g' := gb) (by rw [hgb]; rfl) ?_
              have hIb : TI s0 gb Z tx A V B d0 N (tNumS τ 0 (sN w1)) F := by
                rw [hgb]
                exact TI.town (hEn.px hxm) hS (hzn.pf (PF.px (N := 0) hxm)) (hFn.px hxm) (hNn.ext (TF.px hxm)) hTm hUm ⟨rfl, rfl, rfl, rfl, rfl⟩ (fun j hj => (hfn j hj).ext (Nat.le_refl _) (fun i _ => hxm _ (n_fst rfl) (n_fst rfl) (n_fst rfl)))
              obtain ⟨hEb, -, hzb, hFb, hNb, fob, cab, kab, pab, hTb, hfb⟩ := hIb
              have hsb : PSt gb sc Z tx fr to 0 false ((3, [59]) :: ts) := by rw [hgb]; exact hsm.f0 (xu_ne (n_fst rfl))
              have hRb : FX rdP g gb := by rw [hgb]; exact ((FX.pxr hpx8).trans (FX.pxr hxm)).u 70 0 rfl _
              obtain ⟨at9, bd9, pl9, nb9, wh9, sn9, sg9, wd9, hc9⟩ := hsb.sc
              refine x_goto hC dX5_statement_225 (tgt := 277) rfl ?_
              refine x_aloadr_n hC dX5_statement_277 (q := 278) rfl rfl ?_
              refine x_bipush hC dX5_statement_278 (q := 280) rfl (v := (59)) (by decide) ?_
              refine x_callV hC xv_X5_122 dX5_statement_280 (q := 283) rfl rfl (m_X5_asks_2 h0 _ (c := 59) (by decide) hEb hsb (cz := 2) (sz := 20) (sR_f (by decide) (by decide) _)) (nn := (60, 0)) hc9 rfl rfl (Nat.le_of_ble_eq_true rfl) ⟨(by (try dsimp only); omega), (by (try dsimp only); omega)⟩ ⟨(by (try dsimp only); omega), (by (try dsimp only); omega)⟩ (fun v gz hp => ?_)
              obtain ⟨rfl, hxz, hsz⟩ := hp
              have hTz := hTb.ext (TF.px hxz)
              have hTzz := hTz
              obtain ⟨laz, lkz, hUz, -⟩ := hTzz
              obtain ⟨atz, bdz, plz, nbz, whz, snz, sgz, wdz, hcz⟩ := hsz.sc
              refine x_aloadr_n hC dX5_statement_283 (q := 284) rfl rfl ?_
              refine x_get hC xf_X5_18_4 dX5_statement_284 (q := 287) rfl (n := (60, 0)) hcz rfl ?_
              refine x_dup hC dX5_statement_287 (q := 288) rfl rfl ?_
              refine x_get hC xf_X5_291_2 dX5_statement_288 (q := 291) rfl (n := (70, 0)) hUz rfl ?_
              refine x_iconst hC dX5_statement_291 (q := 292) rfl (v := (1)) (by decide) ?_
              refine x_iadd hC dX5_statement_292 (q := 293) rfl ?_
              rw [nI_1]
              refine x_put hC (n := (70, 0)) xf_X5_291_2 xd_2 rfl dX5_statement_293 (q := 296) rfl hUz rfl rfl rfl ?_
              obtain ⟨ge, hge⟩ : ∃ ge, ge = xu gz (70, 0) (some (Z.2.1, tTown (tMore (tNumS τ 0 (sN w1))) fob laz lkz)) := ⟨_, rfl⟩
              refine x_geq (g' := ge) (by rw [hge]; rfl) ?_
              have hIe : TI s0 ge Z tx A V B d0 N (tMore (tNumS τ 0 (sN w1))) F := by
                rw [hge]
                exact TI.town (hEb.px hxz) hS (hzb.pf (PF.px (N := 0) hxz)) (hFb.px hxz) (hNb.ext (TF.px hxz)) hTz hUz ⟨rfl, rfl, rfl, rfl, rfl⟩ (fun j hj => (hfb j hj).ext (Nat.le_refl _) (fun i _ => hxz _ (n_fst rfl) (n_fst rfl) (n_fst rfl)))
              have hse : PSt ge sc Z tx fr to 0 false ts := by rw [hge]; exact hsz.f0 (xu_ne (n_fst rfl))
              have hRe : FX rdP g ge := by rw [hge]; exact (hRb.trans (FX.pxr hxz)).u 70 0 rfl _
              exact x_vret hC hr dX5_statement_296 (by (try dsimp only); omega) (by (try dsimp only); omega) ⟨N, fr, to, rfl, Nat.le_refl _, hIe, hse, hRe⟩
            · exact absurd rfl h171
          · exact absurd rfl h135
        · exact absurd rfl h101
      · exact absurd rfl h67
    · exact absurd rfl h49
  · exact absurd rfl h31

set_option maxHeartbeats 4000000 in
set_option maxRecDepth 100000 in
theorem m_X5_statement_load {l : Launch} {s0 : State} {D : va_G} (h0 : x0 l s0 D) (g : xG) {sc : Nat} {Z : Nat × Nat × Nat} {tx : List Nat} {A V B : Nat → Nat} {d0 N fr to : Nat} {τ : tS} {F : Nat → Option (aEnv → Int64)} (hI : TI s0 g Z tx A V B d0 N τ F) (hst : tst τ < 80) {ts : List Tk} {sn : Bool} {w1 : List Nat} (hb1 : sN w1 ≤ 999) (hq : PSt g sc Z tx fr to 0 sn ((1, cW 18) :: (2, w1) :: (3, [59]) :: ts)) : xMet l s0 D yX5_statement cX5_statement 2 none ((xr 60 24 400 2000)) [.ref sc] g (fun r g1 => ∃ N1 fr1 to1, r = none ∧ N ≤ N1 ∧ TI s0 g1 Z tx A V B d0 N1 (tMore (tNumS τ 1 (sN w1))) F ∧ PSt g1 sc Z tx fr1 to1 0 false ts ∧ FX rdP g g1) := by
  refine xMet.of h0 (by decide +kernel) rfl ?_
  intro zp ze zs zm za zb zf zc hC hr hnm
  obtain ⟨hE, hS, hz, hF, hN, fo, ca, ka, pa, hT, hfm⟩ := hI
  have hs0 := hq
  obtain ⟨at0, bd0, pl0, nb0, wh0, sn0, sg0, wd0, hc0⟩ := hs0.sc
  have hpx0 : PX g g := PX.rfl
  refine x_aloadr_n hC dX5_statement_0 (q := 1) rfl rfl ?_
  refine x_callV hC xv_X5_86 dX5_statement_1 (q := 4) rfl rfl (m_X5_see h0 g hE hs0 (cz := 2) (sz := 20) (sR_f (by decide) (by decide) _)) (nn := (60, 0)) hc0 rfl rfl (Nat.le_of_ble_eq_true rfl) ⟨(by (try dsimp only); omega), (by (try dsimp only); omega)⟩ ⟨(by (try dsimp only); omega), (by (try dsimp only); omega)⟩ (fun v g1 hp => ?_)
  obtain ⟨rfl, hx1, hq1⟩ := hp
  have hpx1 := hpx0.trans hx1
  have hs1 : PSt g1 sc Z tx fr to 0 true ((1, cW 18) :: (2, w1) :: (3, [59]) :: ts) := hq1
  obtain ⟨at1, bd1, pl1, nb1, wh1, sn1, sg1, wd1, hc1⟩ := hs1.sc
  have hTq := hT.ext (TF.px hpx1)
  obtain ⟨laq, lkq, hUq, -⟩ := hTq
  refine x_pop hC dX5_statement_4 (q := 5) rfl rfl ?_
  refine x_aloadr_n hC dX5_statement_5 (q := 6) rfl rfl ?_
  refine x_get hC xf_X5_43_4 dX5_statement_6 (q := 9) rfl (n := (60, 0)) hc1 rfl ?_
  refine x_istore_n hC dX5_statement_9 (q := 10) rfl rfl ?_
  refine x_aloadr_n hC dX5_statement_10 (q := 11) rfl rfl ?_
  refine x_aloadr_n hC dX5_statement_11 (q := 12) rfl rfl ?_
  refine x_get hC xf_X5_18_4 dX5_statement_12 (q := 15) rfl (n := (60, 0)) hc1 rfl ?_
  refine x_get hC xf_X5_291_2 dX5_statement_15 (q := 18) rfl (n := (70, 0)) hUq rfl ?_
  refine x_bipush hC dX5_statement_18 (q := 20) rfl (v := (80)) (by decide) ?_
  refine x_iload_n hC dX5_statement_20 (q := 21) rfl rfl ?_
  refine x_callV hC xv_X5_257 dX5_statement_21 (q := 24) rfl rfl (m_X5_space h0 _ sc (x := tst τ) (y := 80) (by omega) (by decide) (by omega) _) (nn := (60, 0)) hc1 rfl rfl (Nat.le_of_ble_eq_true rfl) ⟨(by (try dsimp only); omega), (by (try dsimp only); omega)⟩ ⟨(by (try dsimp only); omega), (by (try dsimp only); omega)⟩ (fun v g1 hp => ?_)
  obtain ⟨rfl, hg1⟩ := hp
  replace hg1 := hg1.symm
  subst hg1
  refine x_aloadr_n hC dX5_statement_24 (q := 25) rfl rfl ?_
  refine x_ldcwS hC (xk_1 h0 hS) dX5_statement_25 (q := 28) rfl ?_
  refine x_callV hC xv_X5_106 dX5_statement_28 (q := 31) rfl rfl (m_X5_takes h0 _ hS (hE.px hpx1) hs1 1 rfl (cz := 0) (sz := 0) sR_t) (nn := (60, 0)) hc1 rfl rfl (Nat.le_of_ble_eq_true rfl) ⟨(by (try dsimp only); omega), (by (try dsimp only); omega)⟩ ⟨(by (try dsimp only); omega), (by (try dsimp only); omega)⟩ (fun v g2 hp => ?_)
  rw [hdW_n (by decide +kernel)] at hp
  obtain ⟨rfl, hx2, hq2⟩ := hp
  have hpx2 := hpx1.trans hx2
  have hs2 : PSt g2 sc Z tx fr to 0 true ((1, cW 18) :: (2, w1) :: (3, [59]) :: ts) := hq2
  obtain ⟨at2, bd2, pl2, nb2, wh2, sn2, sg2, wd2, hc2⟩ := hs2.sc
  refine x_if_eq hC dX5_statement_31 (q := 34) rfl (tgt := 42) rfl (fun h31 => ?_) (fun h31 => ?_)
  · refine x_aloadr_n hC dX5_statement_42 (q := 43) rfl rfl ?_
    refine x_ldcwS hC (xk_4 h0 hS) dX5_statement_43 (q := 46) rfl ?_
    refine x_callV hC xv_X5_106 dX5_statement_46 (q := 49) rfl rfl (m_X5_takes h0 _ hS (hE.px hpx2) hs2 4 rfl (cz := 0) (sz := 0) sR_t) (nn := (60, 0)) hc2 rfl rfl (Nat.le_of_ble_eq_true rfl) ⟨(by (try dsimp only); omega), (by (try dsimp only); omega)⟩ ⟨(by (try dsimp only); omega), (by (try dsimp only); omega)⟩ (fun v g3 hp => ?_)
    rw [hdW_n (by decide +kernel)] at hp
    obtain ⟨rfl, hx3, hq3⟩ := hp
    have hpx3 := hpx2.trans hx3
    have hs3 : PSt g3 sc Z tx fr to 0 true ((1, cW 18) :: (2, w1) :: (3, [59]) :: ts) := hq3
    obtain ⟨at3, bd3, pl3, nb3, wh3, sn3, sg3, wd3, hc3⟩ := hs3.sc
    refine x_if_eq hC dX5_statement_49 (q := 52) rfl (tgt := 60) rfl (fun h49 => ?_) (fun h49 => ?_)
    · refine x_aloadr_n hC dX5_statement_60 (q := 61) rfl rfl ?_
      refine x_ldcwS hC (xk_6 h0 hS) dX5_statement_61 (q := 64) rfl ?_
      refine x_callV hC xv_X5_106 dX5_statement_64 (q := 67) rfl rfl (m_X5_takes h0 _ hS (hE.px hpx3) hs3 6 rfl (cz := 0) (sz := 0) sR_t) (nn := (60, 0)) hc3 rfl rfl (Nat.le_of_ble_eq_true rfl) ⟨(by (try dsimp only); omega), (by (try dsimp only); omega)⟩ ⟨(by (try dsimp only); omega), (by (try dsimp only); omega)⟩ (fun v g4 hp => ?_)
      rw [hdW_n (by decide +kernel)] at hp
      obtain ⟨rfl, hx4, hq4⟩ := hp
      have hpx4 := hpx3.trans hx4
      have hs4 : PSt g4 sc Z tx fr to 0 true ((1, cW 18) :: (2, w1) :: (3, [59]) :: ts) := hq4
      obtain ⟨at4, bd4, pl4, nb4, wh4, sn4, sg4, wd4, hc4⟩ := hs4.sc
      refine x_if_eq hC dX5_statement_67 (q := 70) rfl (tgt := 94) rfl (fun h67 => ?_) (fun h67 => ?_)
      · refine x_aloadr_n hC dX5_statement_94 (q := 95) rfl rfl ?_
        refine x_ldcwS hC (xk_14 h0 hS) dX5_statement_95 (q := 98) rfl ?_
        refine x_callV hC xv_X5_106 dX5_statement_98 (q := 101) rfl rfl (m_X5_takes h0 _ hS (hE.px hpx4) hs4 14 rfl (cz := 0) (sz := 0) sR_t) (nn := (60, 0)) hc4 rfl rfl (Nat.le_of_ble_eq_true rfl) ⟨(by (try dsimp only); omega), (by (try dsimp only); omega)⟩ ⟨(by (try dsimp only); omega), (by (try dsimp only); omega)⟩ (fun v g5 hp => ?_)
        rw [hdW_n (by decide +kernel)] at hp
        obtain ⟨rfl, hx5, hq5⟩ := hp
        have hpx5 := hpx4.trans hx5
        have hs5 : PSt g5 sc Z tx fr to 0 true ((1, cW 18) :: (2, w1) :: (3, [59]) :: ts) := hq5
        obtain ⟨at5, bd5, pl5, nb5, wh5, sn5, sg5, wd5, hc5⟩ := hs5.sc
        refine x_if_eq hC dX5_statement_101 (q := 104) rfl (tgt := 128) rfl (fun h101 => ?_) (fun h101 => ?_)
        · refine x_aloadr_n hC dX5_statement_128 (q := 129) rfl rfl ?_
          refine x_ldcwS hC (xk_15 h0 hS) dX5_statement_129 (q := 132) rfl ?_
          refine x_callV hC xv_X5_106 dX5_statement_132 (q := 135) rfl rfl (m_X5_takes h0 _ hS (hE.px hpx5) hs5 15 rfl (cz := 0) (sz := 0) sR_t) (nn := (60, 0)) hc5 rfl rfl (Nat.le_of_ble_eq_true rfl) ⟨(by (try dsimp only); omega), (by (try dsimp only); omega)⟩ ⟨(by (try dsimp only); omega), (by (try dsimp only); omega)⟩ (fun v g6 hp => ?_)
          rw [hdW_n (by decide +kernel)] at hp
          obtain ⟨rfl, hx6, hq6⟩ := hp
          have hpx6 := hpx5.trans hx6
          have hs6 : PSt g6 sc Z tx fr to 0 true ((1, cW 18) :: (2, w1) :: (3, [59]) :: ts) := hq6
          obtain ⟨at6, bd6, pl6, nb6, wh6, sn6, sg6, wd6, hc6⟩ := hs6.sc
          refine x_if_eq hC dX5_statement_135 (q := 138) rfl (tgt := 164) rfl (fun h135 => ?_) (fun h135 => ?_)
          · refine x_aloadr_n hC dX5_statement_164 (q := 165) rfl rfl ?_
            refine x_ldcwS hC (xk_16 h0 hS) dX5_statement_165 (q := 168) rfl ?_
            refine x_callV hC xv_X5_106 dX5_statement_168 (q := 171) rfl rfl (m_X5_takes h0 _ hS (hE.px hpx6) hs6 16 rfl (cz := 0) (sz := 0) sR_t) (nn := (60, 0)) hc6 rfl rfl (Nat.le_of_ble_eq_true rfl) ⟨(by (try dsimp only); omega), (by (try dsimp only); omega)⟩ ⟨(by (try dsimp only); omega), (by (try dsimp only); omega)⟩ (fun v g7 hp => ?_)
            rw [hdW_n (by decide +kernel)] at hp
            obtain ⟨rfl, hx7, hq7⟩ := hp
            have hpx7 := hpx6.trans hx7
            have hs7 : PSt g7 sc Z tx fr to 0 true ((1, cW 18) :: (2, w1) :: (3, [59]) :: ts) := hq7
            obtain ⟨at7, bd7, pl7, nb7, wh7, sn7, sg7, wd7, hc7⟩ := hs7.sc
            refine x_if_eq hC dX5_statement_171 (q := 174) rfl (tgt := 200) rfl (fun h171 => ?_) (fun h171 => ?_)
            · refine x_aloadr_n hC dX5_statement_200 (q := 201) rfl rfl ?_
              refine x_ldcwS hC (xk_17 h0 hS) dX5_statement_201 (q := 204) rfl ?_
              refine x_callV hC xv_X5_106 dX5_statement_204 (q := 207) rfl rfl (m_X5_takes h0 _ hS (hE.px hpx7) hs7 17 rfl (cz := 0) (sz := 0) sR_t) (nn := (60, 0)) hc7 rfl rfl (Nat.le_of_ble_eq_true rfl) ⟨(by (try dsimp only); omega), (by (try dsimp only); omega)⟩ ⟨(by (try dsimp only); omega), (by (try dsimp only); omega)⟩ (fun v g8 hp => ?_)
              rw [hdW_n (by decide +kernel)] at hp
              obtain ⟨rfl, hx8, hq8⟩ := hp
              have hpx8 := hpx7.trans hx8
              have hs8 : PSt g8 sc Z tx fr to 0 true ((1, cW 18) :: (2, w1) :: (3, [59]) :: ts) := hq8
              obtain ⟨at8, bd8, pl8, nb8, wh8, sn8, sg8, wd8, hc8⟩ := hs8.sc
              refine x_if_eq hC dX5_statement_207 (q := 210) rfl (tgt := 228) rfl (fun h207 => ?_) (fun h207 => ?_)
              · refine x_aloadr_n hC dX5_statement_228 (q := 229) rfl rfl ?_
                refine x_ldcwS hC (xk_18 h0 hS) dX5_statement_229 (q := 232) rfl ?_
                refine x_callV hC xv_X5_106 dX5_statement_232 (q := 235) rfl rfl (m_X5_takes h0 _ hS (hE.px hpx8) hs8 18 rfl (cz := 0) (sz := 0) sR_t) (nn := (60, 0)) hc8 rfl rfl (Nat.le_of_ble_eq_true rfl) ⟨(by (try dsimp only); omega), (by (try dsimp only); omega)⟩ ⟨(by (try dsimp only); omega), (by (try dsimp only); omega)⟩ (fun v g9 hp => ?_)
                rw [hdW_c] at hp
                obtain ⟨rfl, hx9, hq9⟩ := hp
                have hpx9 := hpx8.trans hx9
                have hs9 : PSt g9 sc Z tx fr to 0 false ((2, w1) :: (3, [59]) :: ts) := hq9
                obtain ⟨at9, bd9, pl9, nb9, wh9, sn9, sg9, wd9, hc9⟩ := hs9.sc
                have hEn := hE.px hpx9
                have hzn := hz.pf (PF.px (N := 0) hpx9)
                have hFn := hF.px hpx9
                have hNn := hN.ext (TF.px hpx9)
                have hTn := hT.ext (TF.px hpx9)
                have hfn : ∀ j, j < 4 → tFm g9 N j (fo j) (F j) := fun j hj => (hfm j hj).ext (Nat.le_refl _) (fun i _ => hpx9 _ (n_fst rfl) (n_fst rfl) (n_fst rfl))
                refine x_if_eq hC dX5_statement_235 (q := 238) rfl (tgt := 256) rfl (fun h235 => ?_) (fun h235 => ?_)
                · exact absurd h235 (by decide)
                refine x_aloadr_n hC dX5_statement_238 (q := 239) rfl rfl ?_
                refine x_get hC xf_X5_18_4 dX5_statement_239 (q := 242) rfl (n := (60, 0)) hc9 rfl ?_
                refine x_aloadr_n hC dX5_statement_242 (q := 243) rfl rfl ?_
                refine x_iconst hC dX5_statement_243 (q := 244) rfl (v := (0)) (by decide) ?_
                refine x_sipush hC dX5_statement_244 (q := 247) rfl (v := (999)) (by decide) ?_
                refine x_callV hC xv_X5_208 dX5_statement_247 (q := 250) rfl rfl (m_X5_number h0 _ (lo := 0) (hi := 999) hEn hs9 (Nat.zero_le _) hb1 (by decide) (cz := 2) (sz := 20) (sR_f (by decide) (by decide) _)) (nn := (60, 0)) hc9 rfl rfl (Nat.le_of_ble_eq_true rfl) ⟨(by (try dsimp only); omega), (by (try dsimp only); omega)⟩ ⟨(by (try dsimp only); omega), (by (try dsimp only); omega)⟩ (fun v gm hp => ?_)
                obtain ⟨rfl, hxm, hsm⟩ := hp
                have hTm := hTn.ext (TF.px hxm)
                have hTmm := hTm
                obtain ⟨lam, lkm, hUm, -⟩ := hTmm
                refine x_put hC (n := (70, 0)) xf_X5_332_2 xd_2 rfl dX5_statement_250 (q := 253) rfl hUm rfl rfl rfl ?_
                obtain ⟨gb, hgb⟩ : ∃ gb, gb = xu gm (70, 0) (some (Z.2.1, tTown (tNumS τ 1 (sN w1)) fo lam lkm)) := ⟨_, rfl⟩
                refine x_geq (g' := gb) (by rw [hgb]; rfl) ?_
                have hIb : TI s0 gb Z tx A V B d0 N (tNumS τ 1 (sN w1)) F := by
                  rw [hgb]
                  exact TI.town (hEn.px hxm) hS (hzn.pf (PF.px (N := 0) hxm)) (hFn.px hxm) (hNn.ext (TF.px hxm)) hTm hUm ⟨rfl, rfl, rfl, rfl, rfl⟩ (fun j hj => (hfn j hj).ext (Nat.le_refl _) (fun i _ => hxm _ (n_fst rfl) (n_fst rfl) (n_fst rfl)))
                obtain ⟨hEb, -, hzb, hFb, hNb, fob, cab, kab, pab, hTb, hfb⟩ := hIb
                have hsb : PSt gb sc Z tx fr to 0 false ((3, [59]) :: ts) := by rw [hgb]; exact hsm.f0 (xu_ne (n_fst rfl))
                have hRb : FX rdP g gb := by rw [hgb]; exact ((FX.pxr hpx9).trans (FX.pxr hxm)).u 70 0 rfl _
                obtain ⟨at9, bd9, pl9, nb9, wh9, sn9, sg9, wd9, hc9⟩ := hsb.sc
                refine x_goto hC dX5_statement_253 (tgt := 277) rfl ?_
                refine x_aloadr_n hC dX5_statement_277 (q := 278) rfl rfl ?_
                refine x_bipush hC dX5_statement_278 (q := 280) rfl (v := (59)) (by decide) ?_
                refine x_callV hC xv_X5_122 dX5_statement_280 (q := 283) rfl rfl (m_X5_asks_2 h0 _ (c := 59) (by decide) hEb hsb (cz := 2) (sz := 20) (sR_f (by decide) (by decide) _)) (nn := (60, 0)) hc9 rfl rfl (Nat.le_of_ble_eq_true rfl) ⟨(by (try dsimp only); omega), (by (try dsimp only); omega)⟩ ⟨(by (try dsimp only); omega), (by (try dsimp only); omega)⟩ (fun v gz hp => ?_)
                obtain ⟨rfl, hxz, hsz⟩ := hp
                have hTz := hTb.ext (TF.px hxz)
                have hTzz := hTz
                obtain ⟨laz, lkz, hUz, -⟩ := hTzz
                obtain ⟨atz, bdz, plz, nbz, whz, snz, sgz, wdz, hcz⟩ := hsz.sc
                refine x_aloadr_n hC dX5_statement_283 (q := 284) rfl rfl ?_
                refine x_get hC xf_X5_18_4 dX5_statement_284 (q := 287) rfl (n := (60, 0)) hcz rfl ?_
                refine x_dup hC dX5_statement_287 (q := 288) rfl rfl ?_
                refine x_get hC xf_X5_291_2 dX5_statement_288 (q := 291) rfl (n := (70, 0)) hUz rfl ?_
                refine x_iconst hC dX5_statement_291 (q := 292) rfl (v := (1)) (by decide) ?_
                refine x_iadd hC dX5_statement_292 (q := 293) rfl ?_
                rw [nI_1]
                refine x_put hC (n := (70, 0)) xf_X5_291_2 xd_2 rfl dX5_statement_293 (q := 296) rfl hUz rfl rfl rfl ?_
                obtain ⟨ge, hge⟩ : ∃ ge, ge = xu gz (70, 0) (some (Z.2.1, tTown (tMore (tNumS τ 1 (sN w1))) fob laz lkz)) := ⟨_, rfl⟩
                refine x_geq (g' := ge) (by rw [hge]; rfl) ?_
                have hIe : TI s0 ge Z tx A V B d0 N (tMore (tNumS τ 1 (sN w1))) F := by
                  rw [hge]
                  exact TI.town (hEb.px hxz) hS (hzb.pf (PF.px (N := 0) hxz)) (hFb.px hxz) (hNb.ext (TF.px hxz)) hTz hUz ⟨rfl, rfl, rfl, rfl, rfl⟩ (fun j hj => (hfb j hj).ext (Nat.le_refl _) (fun i _ => hxz _ (n_fst rfl) (n_fst rfl) (n_fst rfl)))
                have hse : PSt ge sc Z tx fr to 0 false ts := by rw [hge]; exact hsz.f0 (xu_ne (n_fst rfl))
                have hRe : FX rdP g ge := by rw [hge]; exact (hRb.trans (FX.pxr hxz)).u 70 0 rfl _
                exact x_vret hC hr dX5_statement_296 (by (try dsimp only); omega) (by (try dsimp only); omega) ⟨N, fr, to, rfl, Nat.le_refl _, hIe, hse, hRe⟩
              · exact absurd rfl h207
            · exact absurd rfl h171
          · exact absurd rfl h135
        · exact absurd rfl h101
      · exact absurd rfl h67
    · exact absurd rfl h49
  · exact absurd rfl h31

set_option maxHeartbeats 4000000 in
set_option maxRecDepth 100000 in
theorem m_X5_statement_wind {l : Launch} {s0 : State} {D : va_G} (h0 : x0 l s0 D) (g : xG) {sc : Nat} {Z : Nat × Nat × Nat} {tx : List Nat} {A V B : Nat → Nat} {d0 N fr to : Nat} {τ : tS} {F : Nat → Option (aEnv → Int64)} (hI : TI s0 g Z tx A V B d0 N τ F) (hst : tst τ < 80) {ts : List Tk} {sn : Bool} {w1 : List Nat} (hb1 : sN w1 ≤ 100) (hq : PSt g sc Z tx fr to 0 sn ((1, cW 19) :: (2, w1) :: (3, [59]) :: ts)) : xMet l s0 D yX5_statement cX5_statement 2 none ((xr 60 24 400 2000)) [.ref sc] g (fun r g1 => ∃ N1 fr1 to1, r = none ∧ N ≤ N1 ∧ TI s0 g1 Z tx A V B d0 N1 (tMore (tNumS τ 2 (sN w1))) F ∧ PSt g1 sc Z tx fr1 to1 0 false ts ∧ FX rdP g g1) := by
  refine xMet.of h0 (by decide +kernel) rfl ?_
  intro zp ze zs zm za zb zf zc hC hr hnm
  obtain ⟨hE, hS, hz, hF, hN, fo, ca, ka, pa, hT, hfm⟩ := hI
  have hs0 := hq
  obtain ⟨at0, bd0, pl0, nb0, wh0, sn0, sg0, wd0, hc0⟩ := hs0.sc
  have hpx0 : PX g g := PX.rfl
  refine x_aloadr_n hC dX5_statement_0 (q := 1) rfl rfl ?_
  refine x_callV hC xv_X5_86 dX5_statement_1 (q := 4) rfl rfl (m_X5_see h0 g hE hs0 (cz := 2) (sz := 20) (sR_f (by decide) (by decide) _)) (nn := (60, 0)) hc0 rfl rfl (Nat.le_of_ble_eq_true rfl) ⟨(by (try dsimp only); omega), (by (try dsimp only); omega)⟩ ⟨(by (try dsimp only); omega), (by (try dsimp only); omega)⟩ (fun v g1 hp => ?_)
  obtain ⟨rfl, hx1, hq1⟩ := hp
  have hpx1 := hpx0.trans hx1
  have hs1 : PSt g1 sc Z tx fr to 0 true ((1, cW 19) :: (2, w1) :: (3, [59]) :: ts) := hq1
  obtain ⟨at1, bd1, pl1, nb1, wh1, sn1, sg1, wd1, hc1⟩ := hs1.sc
  have hTq := hT.ext (TF.px hpx1)
  obtain ⟨laq, lkq, hUq, -⟩ := hTq
  refine x_pop hC dX5_statement_4 (q := 5) rfl rfl ?_
  refine x_aloadr_n hC dX5_statement_5 (q := 6) rfl rfl ?_
  refine x_get hC xf_X5_43_4 dX5_statement_6 (q := 9) rfl (n := (60, 0)) hc1 rfl ?_
  refine x_istore_n hC dX5_statement_9 (q := 10) rfl rfl ?_
  refine x_aloadr_n hC dX5_statement_10 (q := 11) rfl rfl ?_
  refine x_aloadr_n hC dX5_statement_11 (q := 12) rfl rfl ?_
  refine x_get hC xf_X5_18_4 dX5_statement_12 (q := 15) rfl (n := (60, 0)) hc1 rfl ?_
  refine x_get hC xf_X5_291_2 dX5_statement_15 (q := 18) rfl (n := (70, 0)) hUq rfl ?_
  refine x_bipush hC dX5_statement_18 (q := 20) rfl (v := (80)) (by decide) ?_
  refine x_iload_n hC dX5_statement_20 (q := 21) rfl rfl ?_
  refine x_callV hC xv_X5_257 dX5_statement_21 (q := 24) rfl rfl (m_X5_space h0 _ sc (x := tst τ) (y := 80) (by omega) (by decide) (by omega) _) (nn := (60, 0)) hc1 rfl rfl (Nat.le_of_ble_eq_true rfl) ⟨(by (try dsimp only); omega), (by (try dsimp only); omega)⟩ ⟨(by (try dsimp only); omega), (by (try dsimp only); omega)⟩ (fun v g1 hp => ?_)
  obtain ⟨rfl, hg1⟩ := hp
  replace hg1 := hg1.symm
  subst hg1
  refine x_aloadr_n hC dX5_statement_24 (q := 25) rfl rfl ?_
  refine x_ldcwS hC (xk_1 h0 hS) dX5_statement_25 (q := 28) rfl ?_
  refine x_callV hC xv_X5_106 dX5_statement_28 (q := 31) rfl rfl (m_X5_takes h0 _ hS (hE.px hpx1) hs1 1 rfl (cz := 0) (sz := 0) sR_t) (nn := (60, 0)) hc1 rfl rfl (Nat.le_of_ble_eq_true rfl) ⟨(by (try dsimp only); omega), (by (try dsimp only); omega)⟩ ⟨(by (try dsimp only); omega), (by (try dsimp only); omega)⟩ (fun v g2 hp => ?_)
  rw [hdW_n (by decide +kernel)] at hp
  obtain ⟨rfl, hx2, hq2⟩ := hp
  have hpx2 := hpx1.trans hx2
  have hs2 : PSt g2 sc Z tx fr to 0 true ((1, cW 19) :: (2, w1) :: (3, [59]) :: ts) := hq2
  obtain ⟨at2, bd2, pl2, nb2, wh2, sn2, sg2, wd2, hc2⟩ := hs2.sc
  refine x_if_eq hC dX5_statement_31 (q := 34) rfl (tgt := 42) rfl (fun h31 => ?_) (fun h31 => ?_)
  · refine x_aloadr_n hC dX5_statement_42 (q := 43) rfl rfl ?_
    refine x_ldcwS hC (xk_4 h0 hS) dX5_statement_43 (q := 46) rfl ?_
    refine x_callV hC xv_X5_106 dX5_statement_46 (q := 49) rfl rfl (m_X5_takes h0 _ hS (hE.px hpx2) hs2 4 rfl (cz := 0) (sz := 0) sR_t) (nn := (60, 0)) hc2 rfl rfl (Nat.le_of_ble_eq_true rfl) ⟨(by (try dsimp only); omega), (by (try dsimp only); omega)⟩ ⟨(by (try dsimp only); omega), (by (try dsimp only); omega)⟩ (fun v g3 hp => ?_)
    rw [hdW_n (by decide +kernel)] at hp
    obtain ⟨rfl, hx3, hq3⟩ := hp
    have hpx3 := hpx2.trans hx3
    have hs3 : PSt g3 sc Z tx fr to 0 true ((1, cW 19) :: (2, w1) :: (3, [59]) :: ts) := hq3
    obtain ⟨at3, bd3, pl3, nb3, wh3, sn3, sg3, wd3, hc3⟩ := hs3.sc
    refine x_if_eq hC dX5_statement_49 (q := 52) rfl (tgt := 60) rfl (fun h49 => ?_) (fun h49 => ?_)
    · refine x_aloadr_n hC dX5_statement_60 (q := 61) rfl rfl ?_
      refine x_ldcwS hC (xk_6 h0 hS) dX5_statement_61 (q := 64) rfl ?_
      refine x_callV hC xv_X5_106 dX5_statement_64 (q := 67) rfl rfl (m_X5_takes h0 _ hS (hE.px hpx3) hs3 6 rfl (cz := 0) (sz := 0) sR_t) (nn := (60, 0)) hc3 rfl rfl (Nat.le_of_ble_eq_true rfl) ⟨(by (try dsimp only); omega), (by (try dsimp only); omega)⟩ ⟨(by (try dsimp only); omega), (by (try dsimp only); omega)⟩ (fun v g4 hp => ?_)
      rw [hdW_n (by decide +kernel)] at hp
      obtain ⟨rfl, hx4, hq4⟩ := hp
      have hpx4 := hpx3.trans hx4
      have hs4 : PSt g4 sc Z tx fr to 0 true ((1, cW 19) :: (2, w1) :: (3, [59]) :: ts) := hq4
      obtain ⟨at4, bd4, pl4, nb4, wh4, sn4, sg4, wd4, hc4⟩ := hs4.sc
      refine x_if_eq hC dX5_statement_67 (q := 70) rfl (tgt := 94) rfl (fun h67 => ?_) (fun h67 => ?_)
      · refine x_aloadr_n hC dX5_statement_94 (q := 95) rfl rfl ?_
        refine x_ldcwS hC (xk_14 h0 hS) dX5_statement_95 (q := 98) rfl ?_
        refine x_callV hC xv_X5_106 dX5_statement_98 (q := 101) rfl rfl (m_X5_takes h0 _ hS (hE.px hpx4) hs4 14 rfl (cz := 0) (sz := 0) sR_t) (nn := (60, 0)) hc4 rfl rfl (Nat.le_of_ble_eq_true rfl) ⟨(by (try dsimp only); omega), (by (try dsimp only); omega)⟩ ⟨(by (try dsimp only); omega), (by (try dsimp only); omega)⟩ (fun v g5 hp => ?_)
        rw [hdW_n (by decide +kernel)] at hp
        obtain ⟨rfl, hx5, hq5⟩ := hp
        have hpx5 := hpx4.trans hx5
        have hs5 : PSt g5 sc Z tx fr to 0 true ((1, cW 19) :: (2, w1) :: (3, [59]) :: ts) := hq5
        obtain ⟨at5, bd5, pl5, nb5, wh5, sn5, sg5, wd5, hc5⟩ := hs5.sc
        refine x_if_eq hC dX5_statement_101 (q := 104) rfl (tgt := 128) rfl (fun h101 => ?_) (fun h101 => ?_)
        · refine x_aloadr_n hC dX5_statement_128 (q := 129) rfl rfl ?_
          refine x_ldcwS hC (xk_15 h0 hS) dX5_statement_129 (q := 132) rfl ?_
          refine x_callV hC xv_X5_106 dX5_statement_132 (q := 135) rfl rfl (m_X5_takes h0 _ hS (hE.px hpx5) hs5 15 rfl (cz := 0) (sz := 0) sR_t) (nn := (60, 0)) hc5 rfl rfl (Nat.le_of_ble_eq_true rfl) ⟨(by (try dsimp only); omega), (by (try dsimp only); omega)⟩ ⟨(by (try dsimp only); omega), (by (try dsimp only); omega)⟩ (fun v g6 hp => ?_)
          rw [hdW_n (by decide +kernel)] at hp
          obtain ⟨rfl, hx6, hq6⟩ := hp
          have hpx6 := hpx5.trans hx6
          have hs6 : PSt g6 sc Z tx fr to 0 true ((1, cW 19) :: (2, w1) :: (3, [59]) :: ts) := hq6
          obtain ⟨at6, bd6, pl6, nb6, wh6, sn6, sg6, wd6, hc6⟩ := hs6.sc
          refine x_if_eq hC dX5_statement_135 (q := 138) rfl (tgt := 164) rfl (fun h135 => ?_) (fun h135 => ?_)
          · refine x_aloadr_n hC dX5_statement_164 (q := 165) rfl rfl ?_
            refine x_ldcwS hC (xk_16 h0 hS) dX5_statement_165 (q := 168) rfl ?_
            refine x_callV hC xv_X5_106 dX5_statement_168 (q := 171) rfl rfl (m_X5_takes h0 _ hS (hE.px hpx6) hs6 16 rfl (cz := 0) (sz := 0) sR_t) (nn := (60, 0)) hc6 rfl rfl (Nat.le_of_ble_eq_true rfl) ⟨(by (try dsimp only); omega), (by (try dsimp only); omega)⟩ ⟨(by (try dsimp only); omega), (by (try dsimp only); omega)⟩ (fun v g7 hp => ?_)
            rw [hdW_n (by decide +kernel)] at hp
            obtain ⟨rfl, hx7, hq7⟩ := hp
            have hpx7 := hpx6.trans hx7
            have hs7 : PSt g7 sc Z tx fr to 0 true ((1, cW 19) :: (2, w1) :: (3, [59]) :: ts) := hq7
            obtain ⟨at7, bd7, pl7, nb7, wh7, sn7, sg7, wd7, hc7⟩ := hs7.sc
            refine x_if_eq hC dX5_statement_171 (q := 174) rfl (tgt := 200) rfl (fun h171 => ?_) (fun h171 => ?_)
            · refine x_aloadr_n hC dX5_statement_200 (q := 201) rfl rfl ?_
              refine x_ldcwS hC (xk_17 h0 hS) dX5_statement_201 (q := 204) rfl ?_
              refine x_callV hC xv_X5_106 dX5_statement_204 (q := 207) rfl rfl (m_X5_takes h0 _ hS (hE.px hpx7) hs7 17 rfl (cz := 0) (sz := 0) sR_t) (nn := (60, 0)) hc7 rfl rfl (Nat.le_of_ble_eq_true rfl) ⟨(by (try dsimp only); omega), (by (try dsimp only); omega)⟩ ⟨(by (try dsimp only); omega), (by (try dsimp only); omega)⟩ (fun v g8 hp => ?_)
              rw [hdW_n (by decide +kernel)] at hp
              obtain ⟨rfl, hx8, hq8⟩ := hp
              have hpx8 := hpx7.trans hx8
              have hs8 : PSt g8 sc Z tx fr to 0 true ((1, cW 19) :: (2, w1) :: (3, [59]) :: ts) := hq8
              obtain ⟨at8, bd8, pl8, nb8, wh8, sn8, sg8, wd8, hc8⟩ := hs8.sc
              refine x_if_eq hC dX5_statement_207 (q := 210) rfl (tgt := 228) rfl (fun h207 => ?_) (fun h207 => ?_)
              · refine x_aloadr_n hC dX5_statement_228 (q := 229) rfl rfl ?_
                refine x_ldcwS hC (xk_18 h0 hS) dX5_statement_229 (q := 232) rfl ?_
                refine x_callV hC xv_X5_106 dX5_statement_232 (q := 235) rfl rfl (m_X5_takes h0 _ hS (hE.px hpx8) hs8 18 rfl (cz := 0) (sz := 0) sR_t) (nn := (60, 0)) hc8 rfl rfl (Nat.le_of_ble_eq_true rfl) ⟨(by (try dsimp only); omega), (by (try dsimp only); omega)⟩ ⟨(by (try dsimp only); omega), (by (try dsimp only); omega)⟩ (fun v g9 hp => ?_)
                rw [hdW_n (by decide +kernel)] at hp
                obtain ⟨rfl, hx9, hq9⟩ := hp
                have hpx9 := hpx8.trans hx9
                have hs9 : PSt g9 sc Z tx fr to 0 true ((1, cW 19) :: (2, w1) :: (3, [59]) :: ts) := hq9
                obtain ⟨at9, bd9, pl9, nb9, wh9, sn9, sg9, wd9, hc9⟩ := hs9.sc
                refine x_if_eq hC dX5_statement_235 (q := 238) rfl (tgt := 256) rfl (fun h235 => ?_) (fun h235 => ?_)
                · refine x_aloadr_n hC dX5_statement_256 (q := 257) rfl rfl ?_
                  refine x_ldcwS hC (xk_19 h0 hS) dX5_statement_257 (q := 260) rfl ?_
                  refine x_callV hC xv_X5_244 dX5_statement_260 (q := 263) rfl rfl (m_X5_asks h0 _ 19 rfl hS (hE.px hpx9) hs9 (cz := 0) (sz := 0) sR_t) (nn := (60, 0)) hc9 rfl rfl (Nat.le_of_ble_eq_true rfl) ⟨(by (try dsimp only); omega), (by (try dsimp only); omega)⟩ ⟨(by (try dsimp only); omega), (by (try dsimp only); omega)⟩ (fun v g10 hp => ?_)
                  obtain ⟨rfl, hx10, hq10⟩ := hp
                  have hpx10 := hpx9.trans hx10
                  have hs10 : PSt g10 sc Z tx fr to 0 false ((2, w1) :: (3, [59]) :: ts) := hq10
                  obtain ⟨at10, bd10, pl10, nb10, wh10, sn10, sg10, wd10, hc10⟩ := hs10.sc
                  have hEn := hE.px hpx10
                  have hzn := hz.pf (PF.px (N := 0) hpx10)
                  have hFn := hF.px hpx10
                  have hNn := hN.ext (TF.px hpx10)
                  have hTn := hT.ext (TF.px hpx10)
                  have hfn : ∀ j, j < 4 → tFm g10 N j (fo j) (F j) := fun j hj => (hfm j hj).ext (Nat.le_refl _) (fun i _ => hpx10 _ (n_fst rfl) (n_fst rfl) (n_fst rfl))
                  refine x_aloadr_n hC dX5_statement_263 (q := 264) rfl rfl ?_
                  refine x_get hC xf_X5_18_4 dX5_statement_264 (q := 267) rfl (n := (60, 0)) hc10 rfl ?_
                  refine x_aloadr_n hC dX5_statement_267 (q := 268) rfl rfl ?_
                  refine x_iconst hC dX5_statement_268 (q := 269) rfl (v := (0)) (by decide) ?_
                  refine x_bipush hC dX5_statement_269 (q := 271) rfl (v := (100)) (by decide) ?_
                  refine x_callV hC xv_X5_208 dX5_statement_271 (q := 274) rfl rfl (m_X5_number h0 _ (lo := 0) (hi := 100) hEn hs10 (Nat.zero_le _) hb1 (by decide) (cz := 2) (sz := 20) (sR_f (by decide) (by decide) _)) (nn := (60, 0)) hc10 rfl rfl (Nat.le_of_ble_eq_true rfl) ⟨(by (try dsimp only); omega), (by (try dsimp only); omega)⟩ ⟨(by (try dsimp only); omega), (by (try dsimp only); omega)⟩ (fun v gm hp => ?_)
                  obtain ⟨rfl, hxm, hsm⟩ := hp
                  have hTm := hTn.ext (TF.px hxm)
                  have hTmm := hTm
                  obtain ⟨lam, lkm, hUm, -⟩ := hTmm
                  refine x_put hC (n := (70, 0)) xf_X5_336_2 xd_2 rfl dX5_statement_274 (q := 277) rfl hUm rfl rfl rfl ?_
                  obtain ⟨gb, hgb⟩ : ∃ gb, gb = xu gm (70, 0) (some (Z.2.1, tTown (tNumS τ 2 (sN w1)) fo lam lkm)) := ⟨_, rfl⟩
                  refine x_geq (g' := gb) (by rw [hgb]; rfl) ?_
                  have hIb : TI s0 gb Z tx A V B d0 N (tNumS τ 2 (sN w1)) F := by
                    rw [hgb]
                    exact TI.town (hEn.px hxm) hS (hzn.pf (PF.px (N := 0) hxm)) (hFn.px hxm) (hNn.ext (TF.px hxm)) hTm hUm ⟨rfl, rfl, rfl, rfl, rfl⟩ (fun j hj => (hfn j hj).ext (Nat.le_refl _) (fun i _ => hxm _ (n_fst rfl) (n_fst rfl) (n_fst rfl)))
                  obtain ⟨hEb, -, hzb, hFb, hNb, fob, cab, kab, pab, hTb, hfb⟩ := hIb
                  have hsb : PSt gb sc Z tx fr to 0 false ((3, [59]) :: ts) := by rw [hgb]; exact hsm.f0 (xu_ne (n_fst rfl))
                  have hRb : FX rdP g gb := by rw [hgb]; exact ((FX.pxr hpx10).trans (FX.pxr hxm)).u 70 0 rfl _
                  obtain ⟨at9, bd9, pl9, nb9, wh9, sn9, sg9, wd9, hc9⟩ := hsb.sc
                  refine x_aloadr_n hC dX5_statement_277 (q := 278) rfl rfl ?_
                  refine x_bipush hC dX5_statement_278 (q := 280) rfl (v := (59)) (by decide) ?_
                  refine x_callV hC xv_X5_122 dX5_statement_280 (q := 283) rfl rfl (m_X5_asks_2 h0 _ (c := 59) (by decide) hEb hsb (cz := 2) (sz := 20) (sR_f (by decide) (by decide) _)) (nn := (60, 0)) hc9 rfl rfl (Nat.le_of_ble_eq_true rfl) ⟨(by (try dsimp only); omega), (by (try dsimp only); omega)⟩ ⟨(by (try dsimp only); omega), (by (try dsimp only); omega)⟩ (fun v gz hp => ?_)
                  obtain ⟨rfl, hxz, hsz⟩ := hp
                  have hTz := hTb.ext (TF.px hxz)
                  have hTzz := hTz
                  obtain ⟨laz, lkz, hUz, -⟩ := hTzz
                  obtain ⟨atz, bdz, plz, nbz, whz, snz, sgz, wdz, hcz⟩ := hsz.sc
                  refine x_aloadr_n hC dX5_statement_283 (q := 284) rfl rfl ?_
                  refine x_get hC xf_X5_18_4 dX5_statement_284 (q := 287) rfl (n := (60, 0)) hcz rfl ?_
                  refine x_dup hC dX5_statement_287 (q := 288) rfl rfl ?_
                  refine x_get hC xf_X5_291_2 dX5_statement_288 (q := 291) rfl (n := (70, 0)) hUz rfl ?_
                  refine x_iconst hC dX5_statement_291 (q := 292) rfl (v := (1)) (by decide) ?_
                  refine x_iadd hC dX5_statement_292 (q := 293) rfl ?_
                  rw [nI_1]
                  refine x_put hC (n := (70, 0)) xf_X5_291_2 xd_2 rfl dX5_statement_293 (q := 296) rfl hUz rfl rfl rfl ?_
                  obtain ⟨ge, hge⟩ : ∃ ge, ge = xu gz (70, 0) (some (Z.2.1, tTown (tMore (tNumS τ 2 (sN w1))) fob laz lkz)) := ⟨_, rfl⟩
                  refine x_geq (g' := ge) (by rw [hge]; rfl) ?_
                  have hIe : TI s0 ge Z tx A V B d0 N (tMore (tNumS τ 2 (sN w1))) F := by
                    rw [hge]
                    exact TI.town (hEb.px hxz) hS (hzb.pf (PF.px (N := 0) hxz)) (hFb.px hxz) (hNb.ext (TF.px hxz)) hTz hUz ⟨rfl, rfl, rfl, rfl, rfl⟩ (fun j hj => (hfb j hj).ext (Nat.le_refl _) (fun i _ => hxz _ (n_fst rfl) (n_fst rfl) (n_fst rfl)))
                  have hse : PSt ge sc Z tx fr to 0 false ts := by rw [hge]; exact hsz.f0 (xu_ne (n_fst rfl))
                  have hRe : FX rdP g ge := by rw [hge]; exact (hRb.trans (FX.pxr hxz)).u 70 0 rfl _
                  exact x_vret hC hr dX5_statement_296 (by (try dsimp only); omega) (by (try dsimp only); omega) ⟨N, fr, to, rfl, Nat.le_refl _, hIe, hse, hRe⟩
                · exact absurd rfl h235
              · exact absurd rfl h207
            · exact absurd rfl h171
          · exact absurd rfl h135
        · exact absurd rfl h101
      · exact absurd rfl h67
    · exact absurd rfl h49
  · exact absurd rfl h31
