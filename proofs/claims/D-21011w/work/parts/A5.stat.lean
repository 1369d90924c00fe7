/-! statements are read -/
def tKidS (τ : tS) (x y : Nat) : tS := (tnc τ + 1, tnk τ, fun c => if c = tnc τ then x else tcl τ c, fun c => if c = tnc τ then y else tgr τ c, trm τ, tfu τ, tlo τ, twi τ, tst τ)
def tKlnS (τ : tS) (x : Nat) : tS := (tnc τ, tnk τ + 1, tcl τ, tgr τ, fun c => if c = tnk τ then x else trm τ c, tfu τ, tlo τ, twi τ, tst τ)
def tNumS (τ : tS) (j x : Nat) : tS := (tnc τ, tnk τ, tcl τ, tgr τ, trm τ, if j = 0 then x else tfu τ, if j = 1 then x else tlo τ, if j = 2 then x else twi τ, tst τ)
def tMore (τ : tS) : tS := (tnc τ, tnk τ, tcl τ, tgr τ, trm τ, tfu τ, tlo τ, twi τ, tst τ + 1)
/-- of the names only those of P may differ -/
def FX (P : xN → Bool) (g g1 : xG) : Prop := ∀ n : xN, P n = false → g1 n = g n
theorem FX.r0 {P : xN → Bool} {g : xG} : FX P g g := fun _ _ => Eq.refl _
theorem FX.trans {P : xN → Bool} {g g1 g2 : xG} (h1 : FX P g g1) (h2 : FX P g1 g2) : FX P g g2 := fun n a => (h2 n a).trans (h1 n a)
theorem FX.px {P : xN → Bool} {g g1 : xG} (h : PX g g1) (a : P (60, 0) = true) (b : P (61, 0) = true) (c : P (62, 0) = true) : FX P g g1 := fun n q => h n (fun e => by rw [e, a] at q; cases q) (fun e => by rw [e, b] at q; cases q) (fun e => by rw [e, c] at q; cases q)
theorem FX.u {P : xN → Bool} {g g1 : xG} (h : FX P g g1) (k i : Nat) (hk : P (k, i) = true) (x : Option (Nat × xE)) : FX P g (xu g1 (k, i) x) := fun n q => by
  rw [xu_ne (fun e => by rw [e, hk] at q; cases q)]
  exact h n q
/-- what the scanner needs stays -/
def FXo (P : xN → Bool) : Prop := P (0, 0) = false ∧ P (1, 0) = false ∧ ∀ n : xN, 1000 ≤ n.1 → P n = false
theorem PE.fx {P : xN → Bool} {g g1 : xG} {Z : Nat × Nat × Nat} {tx : List Nat} {A V B : Nat → Nat} (h : PE g Z tx A V B) (hq : FX P g g1) (hP : FXo P) : PE g1 Z tx A V B := by
  obtain ⟨⟨rest, ta, T, h1, h2, h3⟩, h4, h5, h6, h7⟩ := h
  exact ⟨⟨rest, ta, T, (hq _ hP.1).trans h1, (hq _ hP.2.1).trans h2, h3⟩, h4, h5, h6, h7.ext fun n hn => hq n (hP.2.2 n hn)⟩
theorem xE0.fx {P : xN → Bool} {s0 : State} {g g1 : xG} {d0 : Nat} (h : xE0 s0 g d0) (hq : FX P g g1) (hP : FXo P) : xE0 s0 g1 d0 := by
  obtain ⟨h1, f, h2⟩ := h
  exact ⟨h1, f, (hq _ (hP.2.2 _ (Nat.le_refl 1000))).trans h2⟩
def tokP (n : xN) : Bool := Nat.beq n.1 60 || (Nat.beq n.1 61 || Nat.beq n.1 62)
def kidP (c : Nat) (n : xN) : Bool := tokP n || (Nat.beq n.1 71 || (Nat.beq n.1 72 || (Nat.ble 75 n.1 && Nat.ble n.1 77 && Nat.beq n.2 c)))
def klnP (c : Nat) (n : xN) : Bool := tokP n || (Nat.beq n.1 73 || (Nat.beq n.1 74 || (Nat.ble 78 n.1 && Nat.ble n.1 81 && Nat.beq n.2 c)))
theorem tokP_big {n : xN} (h : n.1 < 60 ∨ 63 ≤ n.1) : tokP n = false := by
  unfold tokP
  rw [Bool.or_eq_false_iff, Bool.or_eq_false_iff]
  refine ⟨?_, ?_, ?_⟩ <;> exact Bool.eq_false_iff.mpr (fun q => by have := Nat.eq_of_beq_eq_true q; omega)
theorem kidP_big {c : Nat} {n : xN} (h : n.1 < 60 ∨ 82 ≤ n.1) : kidP c n = false := by
  unfold kidP
  rw [tokP_big (by omega), Bool.false_or, Bool.or_eq_false_iff, Bool.or_eq_false_iff, Bool.and_eq_false_iff, Bool.and_eq_false_iff]
  refine ⟨Bool.eq_false_iff.mpr (fun q => by have := Nat.eq_of_beq_eq_true q; omega), Bool.eq_false_iff.mpr (fun q => by have := Nat.eq_of_beq_eq_true q; omega), Or.inl ?_⟩
  by_cases e : 75 ≤ n.1
  · exact Or.inr (Bool.eq_false_iff.mpr (fun q => by have := Nat.le_of_ble_eq_true q; omega))
  · exact Or.inl (Bool.eq_false_iff.mpr (fun q => by have := Nat.le_of_ble_eq_true q; omega))
theorem klnP_big {c : Nat} {n : xN} (h : n.1 < 60 ∨ 82 ≤ n.1) : klnP c n = false := by
  unfold klnP
  rw [tokP_big (by omega), Bool.false_or, Bool.or_eq_false_iff, Bool.or_eq_false_iff, Bool.and_eq_false_iff, Bool.and_eq_false_iff]
  refine ⟨Bool.eq_false_iff.mpr (fun q => by have := Nat.eq_of_beq_eq_true q; omega), Bool.eq_false_iff.mpr (fun q => by have := Nat.eq_of_beq_eq_true q; omega), Or.inl ?_⟩
  by_cases e : 78 ≤ n.1
  · exact Or.inr (Bool.eq_false_iff.mpr (fun q => by have := Nat.le_of_ble_eq_true q; omega))
  · exact Or.inl (Bool.eq_false_iff.mpr (fun q => by have := Nat.le_of_ble_eq_true q; omega))
theorem kidP_o (c : Nat) : FXo (kidP c) := ⟨rfl, rfl, fun n hn => kidP_big (by omega)⟩
theorem klnP_o (c : Nat) : FXo (klnP c) := ⟨rfl, rfl, fun n hn => klnP_big (by omega)⟩
theorem kidP_c (c : Nat) : kidP c (75, c) = true ∧ kidP c (76, c) = true ∧ kidP c (77, c) = true := by
  refine ⟨?_, ?_, ?_⟩ <;> exact Nat.beq_refl c
theorem klnP_c (c : Nat) : klnP c (78, c) = true ∧ klnP c (79, c) = true ∧ klnP c (80, c) = true ∧ klnP c (81, c) = true := by
  refine ⟨?_, ?_, ?_, ?_⟩ <;> exact Nat.beq_refl c
theorem hdW_n {w u : List Nat} {ts : List Tk} (h : w ≠ u) : hdW ((1, w) :: ts) u = false := decide_eq_false (fun q => h (by injection q))
theorem PSt.sc {g : xG} {sc : Nat} {Z : Nat × Nat × Nat} {tx : List Nat} {fr to op : Nat} {sn : Bool} {tk : List Tk} (hq : PSt g sc Z tx fr to op sn tk) : ∃ (at0 : Nat) (bd : Int) (pl nb wh sn0 sg : Nat) (wd : Option Nat), g (60, 0) = some (sc, scO Z fr to at0 bd pl nb wh op sn0 sg wd) := by
  obtain ⟨at0, bd, pl, nb, wh, sg, wd, hc, -⟩ := hq
  exact ⟨at0, bd, pl, nb, wh, _, sg, wd, hc⟩
/-- behind a token that is taken, strings are none of the scanner's -/
theorem PSt.f0 {g g1 : xG} {sc : Nat} {Z : Nat × Nat × Nat} {tx : List Nat} {fr to op : Nat} {tk : List Tk} (hq : PSt g sc Z tx fr to op false tk) (h1 : g1 (60, 0) = g (60, 0)) : PSt g1 sc Z tx fr to op false tk := by
  obtain ⟨at0, bd, pl, nb, wh, sg, wd, hc, hat, hb1, hb2, hpl, q | ⟨q, -⟩ | ⟨t, ts, q, -⟩⟩ := hq
  · exact ⟨at0, bd, pl, nb, wh, sg, wd, h1.trans hc, hat, hb1, hb2, hpl, Or.inl q⟩
  · cases q
  · cases q

theorem tw_inj {g : xG} {ht : Nat} {τ : tS} {fo : Nat → Option Nat} {la lk la2 lk2 : Nat} (hU : g (70, 0) = some (ht, tTown τ fo la lk)) (h1 : g (70, 0) = some (ht, tTown τ fo la2 lk2)) : la = la2 ∧ lk = lk2 := by
  have q := hU.symm.trans h1
  simp only [tTown, Option.some.injEq, Prod.mk.injEq, Sum.inr.injEq, List.cons.injEq, Value.ref.injEq, true_and, and_true] at q
  exact q
theorem tKid.up {g : xG} {τ : tS} {ca : Nat → Nat} {c k i : Nat} (h : tKid g τ ca c) (hi : tnc τ ≤ i ∨ 78 ≤ k ∨ k ≤ 74) (x : Option (Nat × xE)) : tKid (xu g (k, i) x) τ ca c := fun q => by
  obtain ⟨s, v, e1, e2, e3⟩ := h q
  have : ∀ j, 75 ≤ j → j ≤ 77 → ((j, c) : xN) ≠ (k, i) := fun j a b r => by
    injection r with r1 r2
    omega
  exact ⟨s, v, by rw [xu_ne (this 75 (by decide) (by decide))]; exact e1, by rw [xu_ne (this 76 (by decide) (by decide))]; exact e2, by rw [xu_ne (this 77 (by decide) (by decide))]; exact e3⟩
theorem tKln.up {g : xG} {τ : tS} {ka pa : Nat → Nat} {c k i : Nat} (h : tKln g τ ka pa c) (hi : tnk τ ≤ i ∨ k ≤ 77) (x : Option (Nat × xE)) : tKln (xu g (k, i) x) τ ka pa c := fun q => by
  obtain ⟨s, v, e1, e2, e3, e4⟩ := h q
  have : ∀ j, 78 ≤ j → j ≤ 81 → ((j, c) : xN) ≠ (k, i) := fun j a b r => by
    injection r with r1 r2
    omega
  exact ⟨s, v, by rw [xu_ne (this 78 (by decide) (by decide))]; exact e1, by rw [xu_ne (this 79 (by decide) (by decide))]; exact e2, by rw [xu_ne (this 80 (by decide) (by decide))]; exact e3, by rw [xu_ne (this 81 (by decide) (by decide))]; exact e4⟩
theorem TW.up {g : xG} {ht d0 : Nat} {τ : tS} {fo : Nat → Option Nat} {ca ka pa : Nat → Nat} (h : TW g ht d0 τ fo ca ka pa) {k i : Nat} (hk : (75 ≤ k ∧ k ≤ 77) ∧ tnc τ ≤ i ∨ (78 ≤ k ∧ k ≤ 81) ∧ tnk τ ≤ i) (x : Option (Nat × xE)) : TW (xu g (k, i) x) ht d0 τ fo ca ka pa := by
  obtain ⟨la, lk, h1, h2, h3, h4, h5, h6⟩ := h
  have hne : ∀ j, j ≤ 74 → ((j, 0) : xN) ≠ (k, i) := fun j a r => by injection r with r1 r2; omega
  exact ⟨la, lk, by rw [xu_ne (hne 70 (by decide))]; exact h1, h2.ext (xu_ne (hne 71 (by decide))) (xu_ne (hne 72 (by decide))), h3.ext (xu_ne (hne 73 (by decide))) (xu_ne (hne 74 (by decide))), fun c => (fun q => by
    obtain ⟨s, v, e1, e2, e3⟩ := h4 c q
    have : ∀ j, 75 ≤ j → j ≤ 77 → ((j, c) : xN) ≠ (k, i) := fun j a b r => by injection r with r1 r2; omega
    exact ⟨s, v, by rw [xu_ne (this 75 (by decide) (by decide))]; exact e1, by rw [xu_ne (this 76 (by decide) (by decide))]; exact e2, by rw [xu_ne (this 77 (by decide) (by decide))]; exact e3⟩), fun c => (fun q => by
    obtain ⟨s, v, e1, e2, e3, e4⟩ := h5 c q
    have : ∀ j, 78 ≤ j → j ≤ 81 → ((j, c) : xN) ≠ (k, i) := fun j a b r => by injection r with r1 r2; omega
    exact ⟨s, v, by rw [xu_ne (this 78 (by decide) (by decide))]; exact e1, by rw [xu_ne (this 79 (by decide) (by decide))]; exact e2, by rw [xu_ne (this 80 (by decide) (by decide))]; exact e3, by rw [xu_ne (this 81 (by decide) (by decide))]; exact e4⟩), h6⟩
theorem TW.up0 {g : xG} {ht d0 : Nat} {τ : tS} {fo : Nat → Option Nat} {ca ka pa : Nat → Nat} (h : TW g ht d0 τ fo ca ka pa) {k i : Nat} (hk : Nat.ble k 69 = true) (x : Option (Nat × xE)) : TW (xu g (k, i) x) ht d0 τ fo ca ka pa := h.ext fun n a b => by
  have hk := Nat.le_of_ble_eq_true hk
  rw [xu_ne (fun q => by rw [q] at a; dsimp only at a; omega)]
theorem TWadd_c {g g1 : xG} {ht d0 : Nat} {τ : tS} {fo : Nat → Option Nat} {ca ka pa : Nat → Nat} {la lk a wa wv x y pq : Nat} (h : TW g ht d0 τ fo ca ka pa) (hU : g (70, 0) = some (ht, tTown τ fo la lk)) (hL : tList g1 (71, 0) (72, 0) la d0 (tnc τ + 1) (fun j => if j = tnc τ then a else ca j)) (hg : ∀ k, k ≠ (71, 0) → k ≠ (72, 0) → g1 k = g k) (ho : g (75, tnc τ) = some (a, xO 5 [.ref wa, .int (nI (tnc τ)), .int (nI x), .int (nI y), .int (-1), .int (-1), .int 0, .null, .int 0])) (hq : g (76, tnc τ) = some (wa, tStr wv)) (hb : g (77, tnc τ) = some (wv, xAi .byte (ncw (tnc τ)).length (sL (ncw (tnc τ))))) (h6 : tnc τ < 6) : TW g1 ht d0 (tKidS τ x y) fo (fun j => if j = tnc τ then a else ca j) ka pa := by
  obtain ⟨la2, lk2, h1, h2, h3, h4, h5, h7⟩ := h
  obtain ⟨rfl, rfl⟩ : la = la2 ∧ lk = lk2 := by
    have q := hU.symm.trans h1
    simp only [tTown, Option.some.injEq, Prod.mk.injEq, Sum.inr.injEq, List.cons.injEq, Value.ref.injEq, true_and, and_true] at q
    exact q
  refine ⟨la, lk, (hg _ (n_fst rfl) (n_fst rfl)).trans h1, hL, h3.ext (hg _ (n_fst rfl) (n_fst rfl)) (hg _ (n_fst rfl) (n_fst rfl)), fun c q => ?_, fun c => (h5 c).ext (hg _ (n_fst rfl) (n_fst rfl)) (hg _ (n_fst rfl) (n_fst rfl)) (hg _ (n_fst rfl) (n_fst rfl)) (hg _ (n_fst rfl) (n_fst rfl)), h6, h7.2⟩
  by_cases e : c = tnc τ
  · subst e
    refine ⟨wa, wv, ?_, (hg _ (n_fst rfl) (n_fst rfl)).trans hq, (hg _ (n_fst rfl) (n_fst rfl)).trans hb⟩
    refine ((hg _ (n_fst rfl) (n_fst rfl)).trans ho).trans ?_
    simp [tKidS, tcl, tgr, tnc]
  · have hc : c < tnc τ := by
      have q1 : c < tnc τ + 1 := q
      omega
    obtain ⟨s, v, e1, e2, e3⟩ := h4 c hc
    refine ⟨s, v, ?_, (hg _ (n_fst rfl) (n_fst rfl)).trans e2, (hg _ (n_fst rfl) (n_fst rfl)).trans e3⟩
    refine ((hg _ (n_fst rfl) (n_fst rfl)).trans e1).trans ?_
    have e9 : ¬ c = τ.1 := e
    simp [tKidS, tcl, tgr, tnc, e9]
theorem TWadd_k {g g1 : xG} {ht d0 : Nat} {τ : tS} {fo : Nat → Option Nat} {ca ka pa : Nat → Nat} {la lk a wa wv x pq : Nat} (h : TW g ht d0 τ fo ca ka pa) (hU : g (70, 0) = some (ht, tTown τ fo la lk)) (hL : tList g1 (73, 0) (74, 0) lk d0 (tnk τ + 1) (fun j => if j = tnk τ then a else ka j)) (hg : ∀ k, k ≠ (73, 0) → k ≠ (74, 0) → g1 k = g k) (ho : g (78, tnk τ) = some (a, xO 6 [.ref wa, .int (nI (tnk τ)), .int (nI x), .int (-1), .ref pq])) (hq : g (80, tnk τ) = some (wa, tStr wv)) (hb : g (81, tnk τ) = some (wv, xAi .byte (nkw (tnk τ)).length (sL (nkw (tnk τ))))) (hr : g (79, tnk τ) = some (pq, xAr (.object "KilnBench$Child") 6 (fun _ => none))) (h6 : tnk τ < 3) : TW g1 ht d0 (tKlnS τ x) fo ca (fun j => if j = tnk τ then a else ka j) (fun j => if j = tnk τ then pq else pa j) := by
  obtain ⟨la2, lk2, h1, h2, h3, h4, h5, h7⟩ := h
  obtain ⟨rfl, rfl⟩ : la = la2 ∧ lk = lk2 := by
    have q := hU.symm.trans h1
    simp only [tTown, Option.some.injEq, Prod.mk.injEq, Sum.inr.injEq, List.cons.injEq, Value.ref.injEq, true_and, and_true] at q
    exact q
  refine ⟨la, lk, (hg _ (n_fst rfl) (n_fst rfl)).trans h1, h2.ext (hg _ (n_fst rfl) (n_fst rfl)) (hg _ (n_fst rfl) (n_fst rfl)), hL, fun c => (h4 c).ext (hg _ (n_fst rfl) (n_fst rfl)) (hg _ (n_fst rfl) (n_fst rfl)) (hg _ (n_fst rfl) (n_fst rfl)), fun c q => ?_, h7.1, h6⟩
  by_cases e : c = tnk τ
  · subst e
    refine ⟨wa, wv, ?_, ?_, (hg _ (n_fst rfl) (n_fst rfl)).trans hq, (hg _ (n_fst rfl) (n_fst rfl)).trans hb⟩
    · refine ((hg _ (n_fst rfl) (n_fst rfl)).trans ho).trans ?_
      simp [tKlnS, trm, tnk]
    · refine ((hg _ (n_fst rfl) (n_fst rfl)).trans hr).trans ?_
      simp
  · have hc : c < tnk τ := by
      have q1 : c < tnk τ + 1 := q
      omega
    obtain ⟨s, v, e1, e2, e3, e4⟩ := h5 c hc
    refine ⟨s, v, ?_, ?_, (hg _ (n_fst rfl) (n_fst rfl)).trans e3, (hg _ (n_fst rfl) (n_fst rfl)).trans e4⟩
    · refine ((hg _ (n_fst rfl) (n_fst rfl)).trans e1).trans ?_
      have e9 : ¬ c = τ.2.1 := e
      simp [tKlnS, trm, tnk, e9]
    · refine ((hg _ (n_fst rfl) (n_fst rfl)).trans e2).trans ?_
      simp [e]

set_option maxHeartbeats 4000000 in
set_option maxRecDepth 100000 in
theorem m_X5_child_ {l : Launch} {s0 : State} {D : va_G} (h0 : x0 l s0 D) (g : xG) {sc : Nat} {Z : Nat × Nat × Nat} {tx : List Nat} {A V B : Nat → Nat} {d0 fr to op : Nat} (hE : PE g Z tx A V B) (hS : KS0 s0 A V B) (hz : xE0 s0 g d0) {τ : tS} {fo : Nat → Option Nat} {ca ka pa : Nat → Nat} (hT : TW g Z.2.1 d0 τ fo ca ka pa) (hN : TN g τ) {w1 w2 : List Nat} {ts : List Tk} (hq : PSt g sc Z tx fr to op false ((1, ncw (tnc τ)) :: (1, cW 2) :: (2, w1) :: (1, cW 3) :: (2, w2) :: ts)) (hb1 : sN w1 ≤ 99) (hb2 : sN w2 ≤ 9) (hn6 : tnc τ < 6) (bg : Int32) : xMet l s0 D yX5_child cX5_child 3 none ((xr 12 16 200 500)) [.ref sc, .int bg] g (fun r g1 => ∃ (a pq : Nat), r = none ∧ TW g1 Z.2.1 d0 (tKidS τ (sN w1) (sN w2)) fo (fun j => if j = tnc τ then a else ca j) ka pa ∧ PSt g1 sc Z tx fr to op false ts ∧ FX (kidP (tnc τ)) g g1) := by
  refine xMet.of h0 (by decide +kernel) rfl ?_
  intro zp ze zs zm za zb zf zc hC hr hnm
  obtain ⟨at0, bd0, pl0, nb0, wh0, sn0, sg0, wd0, hc0⟩ := hq.sc
  have hE0 := hE
  have hz0 := hz
  have hT0 := hT
  have hs0 := hq
  have hQ0 : FX (kidP (tnc τ)) g g := FX.r0
  have hTb0 := hT0
  obtain ⟨la0, lk0, hU0, hV0, hW0, -⟩ := hTb0
  obtain ⟨dc0, mc0, hVl0, -⟩ := hV0
  obtain ⟨dk0, mk0, hWl0, -⟩ := hW0
  refine x_aloadr_n hC dX5_child_0 (q := 1) rfl rfl ?_
  refine x_aloadr_n hC dX5_child_1 (q := 2) rfl rfl ?_
  refine x_get hC xf_X5_18_4 dX5_child_2 (q := 5) rfl (n := (60, 0)) hc0 rfl ?_
  refine x_get hC xf_X5_252_2 dX5_child_5 (q := 8) rfl (n := (70, 0)) hU0 rfl ?_
  refine x_callV hC xv_X5_255 dX5_child_8 (q := 11) rfl rfl (m_J3_size h0 g hVl0) (nn := (71, 0)) hVl0 rfl rfl (Nat.le_of_ble_eq_true rfl) ⟨(by (try dsimp only); omega), (by (try dsimp only); omega)⟩ ⟨(by (try dsimp only); omega), (by (try dsimp only); omega)⟩ (fun v g1 hp => ?_)
  obtain ⟨rfl, hg1⟩ := hp
  replace hg1 := hg1.symm
  subst hg1
  refine x_bipush hC dX5_child_11 (q := 13) rfl (v := (8)) (by decide) ?_
  refine x_iload_n hC dX5_child_13 (q := 14) rfl rfl ?_
  refine x_callV hC xv_X5_257 dX5_child_14 (q := 17) rfl rfl (m_X5_space h0 g sc (x := tnc τ) (y := 8) (by omega) (by decide) (by omega) _) (nn := (60, 0)) hc0 rfl rfl (Nat.le_of_ble_eq_true rfl) ⟨(by (try dsimp only); omega), (by (try dsimp only); omega)⟩ ⟨(by (try dsimp only); omega), (by (try dsimp only); omega)⟩ (fun v g1 hp => ?_)
  obtain ⟨rfl, hg1⟩ := hp
  replace hg1 := hg1.symm
  subst hg1
  refine x_new hC (fs := [.null, .int 0, .int 0, .int 0, .int 0, .int 0, .int 0, .null, .int 0]) (75, tnc τ) xc_5 q573 q574 q101 dX5_child_17 (q := 20) rfl rfl (hN.1 _ (Nat.le_refl _)).1 (fun j hj => by match j, hj with | 0, _ => rfl | 1, _ => rfl | 2, _ => rfl | 3, _ => rfl | 4, _ => rfl | 5, _ => rfl | 6, _ => rfl | 7, _ => rfl | 8, _ => rfl | j + 9, h => exact absurd h (by omega)) (by (try dsimp only); omega) (by (try dsimp only); omega) (fun a_17 => ?_)
  have hx1 : FX (kidP (tnc τ)) g (xu g (75, tnc τ) (some (a_17, xO 5 [.null, .int 0, .int 0, .int 0, .int 0, .int 0, .int 0, .null, .int 0]))) := FX.r0.u _ _ (kidP_c (tnc τ)).1 _
  have hE1 := hE0.fx hx1 (kidP_o _)
  have hz1 := hz0.fx hx1 (kidP_o _)
  have hs1 : PSt (xu g (75, tnc τ) (some (a_17, xO 5 [.null, .int 0, .int 0, .int 0, .int 0, .int 0, .int 0, .null, .int 0]))) sc Z tx fr to op false _ := hs0.f0 (xu_ne (n_fst rfl))
  have hT1 : TW (xu g (75, tnc τ) (some (a_17, xO 5 [.null, .int 0, .int 0, .int 0, .int 0, .int 0, .int 0, .null, .int 0]))) Z.2.1 d0 τ fo ca ka pa := hT0.up (k := 75) (i := tnc τ) (by first | exact Or.inl ⟨by decide, Nat.le_refl _⟩ | exact Or.inr ⟨by decide, Nat.le_refl _⟩) _
  have hQ1 := hQ0.trans hx1
  obtain ⟨at1, bd1, pl1, nb1, wh1, sn1, sg1, wd1, hc1⟩ := hs1.sc
  refine x_dup hC dX5_child_20 (q := 21) rfl rfl ?_
  refine x_aloadr_n hC dX5_child_21 (q := 22) rfl rfl ?_
  refine x_callV hC xv_X5_263 dX5_child_22 (q := 25) rfl rfl (m_X5_newName h0 _ hE1 hS hs1 (ncw_own _ (by omega)) (cz := 2) (sz := 20) (sR_f (by decide) (by decide) _) hT1 (fun c hc q => by have := congrArg (fun l => l.getD 1 0) q; simp only [ncw] at this; have h9 : 97 + c = 97 + tnc τ := this; omega) (fun c hc q => by have := congrArg (fun l => l.getD 0 0) q; have h9 : (107 : Nat) = 99 := this; omega)) (nn := (60, 0)) hc1 rfl rfl (Nat.le_of_ble_eq_true rfl) ⟨(by (try dsimp only); omega), (by (try dsimp only); omega)⟩ ⟨(by (try dsimp only); omega), (by (try dsimp only); omega)⟩ (fun v g2 hp => ?_)
  obtain ⟨wa, wv, rfl, hx2, hs2, y1, y2, y3, y4⟩ := hp
  have hE2 := hE1.px hx2
  have hz2 := hz1.pf (PF.px (N := 0) hx2)
  have hT2 := hT1.ext (TF.px hx2)
  have hQ2 := hQ1.trans (FX.px hx2 rfl rfl rfl)
  obtain ⟨at2, bd2, pl2, nb2, wh2, sn2, sg2, wd2, hc2⟩ := hs2.sc
  have hTb2 := hT2
  obtain ⟨la2, lk2, hU2, hV2, hW2, -⟩ := hTb2
  obtain ⟨dc2, mc2, hVl2, -⟩ := hV2
  obtain ⟨dk2, mk2, hWl2, -⟩ := hW2
  have hk2 := (hx2 (75, tnc τ) (n_fst rfl) (n_fst rfl) (n_fst rfl)).trans (xu_eq _ _ _)
  refine x_aloadr_n hC dX5_child_25 (q := 26) rfl rfl ?_
  refine x_get hC xf_X5_18_4 dX5_child_26 (q := 29) rfl (n := (60, 0)) hc2 rfl ?_
  refine x_get hC xf_X5_252_2 dX5_child_29 (q := 32) rfl (n := (70, 0)) hU2 rfl ?_
  refine x_callV hC xv_X5_255 dX5_child_32 (q := 35) rfl rfl (m_J3_size h0 _ hVl2) (nn := (71, 0)) hVl2 rfl rfl (Nat.le_of_ble_eq_true rfl) ⟨(by (try dsimp only); omega), (by (try dsimp only); omega)⟩ ⟨(by (try dsimp only); omega), (by (try dsimp only); omega)⟩ (fun v g1 hp => ?_)
  obtain ⟨rfl, hg1⟩ := hp
  replace hg1 := hg1.symm
  subst hg1
  refine x_callI hC xv_X5_266 dX5_child_35 (q := 38) rfl rfl (m_X8_init h0 _ (n := (75, tnc τ)) rfl hk2) rfl (Nat.le_of_ble_eq_true rfl) ⟨(by (try dsimp only); omega), (by (try dsimp only); omega)⟩ ⟨(by (try dsimp only); omega), (by (try dsimp only); omega)⟩ (fun v g1 hp => ?_)
  obtain ⟨rfl, hg1⟩ := hp
  replace hg1 := hg1.symm
  subst hg1
  refine x_ren (61, 0) (76, tnc τ) rfl rfl (by rw [xu_ne (n_fst rfl), hx2 _ (n_fst rfl) (n_fst rfl) (n_fst rfl), xu_ne (n_fst rfl)]; exact (hN.1 _ (Nat.le_refl _)).2.1) ?_
  refine x_ren (62, 0) (77, tnc τ) rfl rfl (by rw [xu_ne (n_fst rfl), xu_ne (n_fst rfl), xu_ne (n_fst rfl), hx2 _ (n_fst rfl) (n_fst rfl) (n_fst rfl), xu_ne (n_fst rfl)]; exact (hN.1 _ (Nat.le_refl _)).2.2) ?_
  rw [show xu (xu (xu g2 (75, tnc τ) (some (a_17, xO 5 [.ref wa, .int (nI (tnc τ)), .int 0, .int 0, .int (-1), .int (-1), .int 0, .null, .int 0]))) (61, 0) none) (76, tnc τ) ((xu g2 (75, tnc τ) (some (a_17, xO 5 [.ref wa, .int (nI (tnc τ)), .int 0, .int 0, .int (-1), .int (-1), .int 0, .null, .int 0]))) (61, 0)) (62, 0) = some (wv, xAi .byte (ncw (tnc τ)).length (sL (ncw (tnc τ)))) by rw [xu_ne (n_fst rfl), xu_ne (n_fst rfl), xu_ne (n_fst rfl)]; exact y2, show (xu g2 (75, tnc τ) (some (a_17, xO 5 [.ref wa, .int (nI (tnc τ)), .int 0, .int 0, .int (-1), .int (-1), .int 0, .null, .int 0]))) (61, 0) = some (wa, tStr wv) by rw [xu_ne (n_fst rfl)]; exact y1]
  have hx3 : FX (kidP (tnc τ)) g2 (xu (xu (xu (xu (xu g2 (75, tnc τ) (some (a_17, xO 5 [.ref wa, .int (nI (tnc τ)), .int 0, .int 0, .int (-1), .int (-1), .int 0, .null, .int 0]))) (61, 0) none) (76, tnc τ) (some (wa, tStr wv))) (62, 0) none) (77, tnc τ) (some (wv, xAi .byte (ncw (tnc τ)).length (sL (ncw (tnc τ)))))) := ((((((FX.r0 (P := kidP (tnc τ))).u _ _ (kidP_c _).1 _).u _ _ rfl _).u _ _ (kidP_c _).2.1 _).u _ _ rfl _).u _ _ (kidP_c _).2.2 _)
  have hE3 := hE2.fx hx3 (kidP_o _)
  have hz3 := hz2.fx hx3 (kidP_o _)
  have hQ3 := hQ2.trans hx3
  have hs3 := hs2.f0 (g1 := (xu (xu (xu (xu (xu g2 (75, tnc τ) (some (a_17, xO 5 [.ref wa, .int (nI (tnc τ)), .int 0, .int 0, .int (-1), .int (-1), .int 0, .null, .int 0]))) (61, 0) none) (76, tnc τ) (some (wa, tStr wv))) (62, 0) none) (77, tnc τ) (some (wv, xAi .byte (ncw (tnc τ)).length (sL (ncw (tnc τ))))))) (by rw [xu_ne (n_fst rfl), xu_ne (n_fst rfl), xu_ne (n_fst rfl), xu_ne (n_fst rfl), xu_ne (n_fst rfl)])
  have hT3 : TW (xu (xu (xu (xu (xu g2 (75, tnc τ) (some (a_17, xO 5 [.ref wa, .int (nI (tnc τ)), .int 0, .int 0, .int (-1), .int (-1), .int 0, .null, .int 0]))) (61, 0) none) (76, tnc τ) (some (wa, tStr wv))) (62, 0) none) (77, tnc τ) (some (wv, xAi .byte (ncw (tnc τ)).length (sL (ncw (tnc τ)))))) Z.2.1 d0 τ fo ca ka pa := ((((hT2.up (k := 75) (i := tnc τ) (by first | exact Or.inl ⟨by decide, Nat.le_refl _⟩ | exact Or.inr ⟨by decide, Nat.le_refl _⟩) _).up0 (k := 61) rfl _).up (k := 76) (i := tnc τ) (by first | exact Or.inl ⟨by decide, Nat.le_refl _⟩ | exact Or.inr ⟨by decide, Nat.le_refl _⟩) _).up0 (k := 62) rfl _).up (k := 77) (i := tnc τ) (by first | exact Or.inl ⟨by decide, Nat.le_refl _⟩ | exact Or.inr ⟨by decide, Nat.le_refl _⟩) _
  obtain ⟨at3, bd3, pl3, nb3, wh3, sn3, sg3, wd3, hc3⟩ := hs3.sc
  have ho3 : (xu (xu (xu (xu (xu g2 (75, tnc τ) (some (a_17, xO 5 [.ref wa, .int (nI (tnc τ)), .int 0, .int 0, .int (-1), .int (-1), .int 0, .null, .int 0]))) (61, 0) none) (76, tnc τ) (some (wa, tStr wv))) (62, 0) none) (77, tnc τ) (some (wv, xAi .byte (ncw (tnc τ)).length (sL (ncw (tnc τ)))))) (75, tnc τ) = (some (a_17, xO 5 [.ref wa, .int (nI (tnc τ)), .int 0, .int 0, .int (-1), .int (-1), .int 0, .null, .int 0])) := by rw [xu_ne (n_fst rfl), xu_ne (n_fst rfl), xu_ne (n_fst rfl), xu_ne (n_fst rfl), xu_eq]
  have hq3 : (xu (xu (xu (xu (xu g2 (75, tnc τ) (some (a_17, xO 5 [.ref wa, .int (nI (tnc τ)), .int 0, .int 0, .int (-1), .int (-1), .int 0, .null, .int 0]))) (61, 0) none) (76, tnc τ) (some (wa, tStr wv))) (62, 0) none) (77, tnc τ) (some (wv, xAi .byte (ncw (tnc τ)).length (sL (ncw (tnc τ)))))) (76, tnc τ) = some (wa, tStr wv) := by rw [xu_ne (n_fst rfl), xu_ne (n_fst rfl), xu_eq]
  have hb3 : (xu (xu (xu (xu (xu g2 (75, tnc τ) (some (a_17, xO 5 [.ref wa, .int (nI (tnc τ)), .int 0, .int 0, .int (-1), .int (-1), .int 0, .null, .int 0]))) (61, 0) none) (76, tnc τ) (some (wa, tStr wv))) (62, 0) none) (77, tnc τ) (some (wv, xAi .byte (ncw (tnc τ)).length (sL (ncw (tnc τ)))))) (77, tnc τ) = some (wv, xAi .byte (ncw (tnc τ)).length (sL (ncw (tnc τ)))) := xu_eq _ _ _
  refine x_astorer_n hC dX5_child_38 (q := 39) rfl rfl ?_
  refine x_aloadr_n hC dX5_child_39 (q := 40) rfl rfl ?_
  refine x_ldcwS hC (xk_2 h0 hS) dX5_child_40 (q := 43) rfl ?_
  refine x_callV hC xv_X5_244 dX5_child_43 (q := 46) rfl rfl (m_X5_asks h0 _ 2 rfl hS hE3 hs3 (cz := 2) (sz := 20) (sR_f (by decide) (by decide) _)) (nn := (60, 0)) hc3 rfl rfl (Nat.le_of_ble_eq_true rfl) ⟨(by (try dsimp only); omega), (by (try dsimp only); omega)⟩ ⟨(by (try dsimp only); omega), (by (try dsimp only); omega)⟩ (fun v g4 hp => ?_)
  obtain ⟨rfl, hx4, hs4⟩ := hp
  have hE4 := hE3.px hx4
  have hz4 := hz3.pf (PF.px (N := 0) hx4)
  have hT4 := hT3.ext (TF.px hx4)
  have hQ4 := hQ3.trans (FX.px hx4 rfl rfl rfl)
  obtain ⟨at4, bd4, pl4, nb4, wh4, sn4, sg4, wd4, hc4⟩ := hs4.sc
  have ho4 := (hx4 (75, tnc τ) (n_fst rfl) (n_fst rfl) (n_fst rfl)).trans ho3
  have hq4 := (hx4 (76, tnc τ) (n_fst rfl) (n_fst rfl) (n_fst rfl)).trans hq3
  have hb4 := (hx4 (77, tnc τ) (n_fst rfl) (n_fst rfl) (n_fst rfl)).trans hb3
  refine x_aloadr_n hC dX5_child_46 (q := 47) rfl rfl ?_
  refine x_aloadr_n hC dX5_child_47 (q := 48) rfl rfl ?_
  refine x_iconst hC dX5_child_48 (q := 49) rfl (v := (0)) (by decide) ?_
  refine x_bipush hC dX5_child_49 (q := 51) rfl (v := (99)) (by decide) ?_
  refine x_callV hC xv_X5_208 dX5_child_51 (q := 54) rfl rfl (m_X5_number h0 _ (lo := 0) (hi := 99) hE4 hs4 (Nat.zero_le _) hb1 (by decide) (cz := 2) (sz := 20) (sR_f (by decide) (by decide) _)) (nn := (60, 0)) hc4 rfl rfl (Nat.le_of_ble_eq_true rfl) ⟨(by (try dsimp only); omega), (by (try dsimp only); omega)⟩ ⟨(by (try dsimp only); omega), (by (try dsimp only); omega)⟩ (fun v g5 hp => ?_)
  obtain ⟨rfl, hx5, hs5⟩ := hp
  have hE5 := hE4.px hx5
  have hz5 := hz4.pf (PF.px (N := 0) hx5)
  have hT5 := hT4.ext (TF.px hx5)
  have hQ5 := hQ4.trans (FX.px hx5 rfl rfl rfl)
  obtain ⟨at5, bd5, pl5, nb5, wh5, sn5, sg5, wd5, hc5⟩ := hs5.sc
  have ho5 := (hx5 (75, tnc τ) (n_fst rfl) (n_fst rfl) (n_fst rfl)).trans ho4
  have hq5 := (hx5 (76, tnc τ) (n_fst rfl) (n_fst rfl) (n_fst rfl)).trans hq4
  have hb5 := (hx5 (77, tnc τ) (n_fst rfl) (n_fst rfl) (n_fst rfl)).trans hb4
  refine x_put hC (n := (75, tnc τ)) xf_X5_271_5 xd_5 rfl dX5_child_54 (q := 57) rfl ho5 rfl rfl rfl ?_
  have hx6 : FX (kidP (tnc τ)) g5 (xu g5 (75, tnc τ) (some (a_17, xO 5 [.ref wa, .int (nI (tnc τ)), .int (nI (sN w1)), .int 0, .int (-1), .int (-1), .int 0, .null, .int 0]))) := FX.r0.u _ _ (kidP_c (tnc τ)).1 _
  have hE6 := hE5.fx hx6 (kidP_o _)
  have hz6 := hz5.fx hx6 (kidP_o _)
  have hQ6 := hQ5.trans hx6
  have hs6 := hs5.f0 (g1 := xu g5 (75, tnc τ) (some (a_17, xO 5 [.ref wa, .int (nI (tnc τ)), .int (nI (sN w1)), .int 0, .int (-1), .int (-1), .int 0, .null, .int 0]))) (xu_ne (n_fst rfl))
  have hT6 := hT5.up (k := 75) (i := tnc τ) (by first | exact Or.inl ⟨by decide, Nat.le_refl _⟩ | exact Or.inr ⟨by decide, Nat.le_refl _⟩) (some (a_17, xO 5 [.ref wa, .int (nI (tnc τ)), .int (nI (sN w1)), .int 0, .int (-1), .int (-1), .int 0, .null, .int 0]))
  have ho6 : xu g5 (75, tnc τ) (some (a_17, xO 5 [.ref wa, .int (nI (tnc τ)), .int (nI (sN w1)), .int 0, .int (-1), .int (-1), .int 0, .null, .int 0])) (75, tnc τ) = _ := xu_eq _ _ _
  have hq6 := (xu_ne (n_fst rfl) : xu g5 (75, tnc τ) (some (a_17, xO 5 [.ref wa, .int (nI (tnc τ)), .int (nI (sN w1)), .int 0, .int (-1), .int (-1), .int 0, .null, .int 0])) (76, tnc τ) = _).trans hq5
  have hb6 := (xu_ne (n_fst rfl) : xu g5 (75, tnc τ) (some (a_17, xO 5 [.ref wa, .int (nI (tnc τ)), .int (nI (sN w1)), .int 0, .int (-1), .int (-1), .int 0, .null, .int 0])) (77, tnc τ) = _).trans hb5
  obtain ⟨at6, bd6, pl6, nb6, wh6, sn6, sg6, wd6, hc6⟩ := hs6.sc
  refine x_aloadr_n hC dX5_child_57 (q := 58) rfl rfl ?_
  refine x_ldcwS hC (xk_3 h0 hS) dX5_child_58 (q := 61) rfl ?_
  refine x_callV hC xv_X5_244 dX5_child_61 (q := 64) rfl rfl (m_X5_asks h0 _ 3 rfl hS hE6 hs6 (cz := 2) (sz := 20) (sR_f (by decide) (by decide) _)) (nn := (60, 0)) hc6 rfl rfl (Nat.le_of_ble_eq_true rfl) ⟨(by (try dsimp only); omega), (by (try dsimp only); omega)⟩ ⟨(by (try dsimp only); omega), (by (try dsimp only); omega)⟩ (fun v g7 hp => ?_)
  obtain ⟨rfl, hx7, hs7⟩ := hp
  have hE7 := hE6.px hx7
  have hz7 := hz6.pf (PF.px (N := 0) hx7)
  have hT7 := hT6.ext (TF.px hx7)
  have hQ7 := hQ6.trans (FX.px hx7 rfl rfl rfl)
  obtain ⟨at7, bd7, pl7, nb7, wh7, sn7, sg7, wd7, hc7⟩ := hs7.sc
  have ho7 := (hx7 (75, tnc τ) (n_fst rfl) (n_fst rfl) (n_fst rfl)).trans ho6
  have hq7 := (hx7 (76, tnc τ) (n_fst rfl) (n_fst rfl) (n_fst rfl)).trans hq6
  have hb7 := (hx7 (77, tnc τ) (n_fst rfl) (n_fst rfl) (n_fst rfl)).trans hb6
  refine x_aloadr_n hC dX5_child_64 (q := 65) rfl rfl ?_
  refine x_aloadr_n hC dX5_child_65 (q := 66) rfl rfl ?_
  refine x_iconst hC dX5_child_66 (q := 67) rfl (v := (0)) (by decide) ?_
  refine x_bipush hC dX5_child_67 (q := 69) rfl (v := (9)) (by decide) ?_
  refine x_callV hC xv_X5_208 dX5_child_69 (q := 72) rfl rfl (m_X5_number h0 _ (lo := 0) (hi := 9) hE7 hs7 (Nat.zero_le _) hb2 (by decide) (cz := 2) (sz := 20) (sR_f (by decide) (by decide) _)) (nn := (60, 0)) hc7 rfl rfl (Nat.le_of_ble_eq_true rfl) ⟨(by (try dsimp only); omega), (by (try dsimp only); omega)⟩ ⟨(by (try dsimp only); omega), (by (try dsimp only); omega)⟩ (fun v g8 hp => ?_)
  obtain ⟨rfl, hx8, hs8⟩ := hp
  have hE8 := hE7.px hx8
  have hz8 := hz7.pf (PF.px (N := 0) hx8)
  have hT8 := hT7.ext (TF.px hx8)
  have hQ8 := hQ7.trans (FX.px hx8 rfl rfl rfl)
  obtain ⟨at8, bd8, pl8, nb8, wh8, sn8, sg8, wd8, hc8⟩ := hs8.sc
  have ho8 := (hx8 (75, tnc τ) (n_fst rfl) (n_fst rfl) (n_fst rfl)).trans ho7
  have hq8 := (hx8 (76, tnc τ) (n_fst rfl) (n_fst rfl) (n_fst rfl)).trans hq7
  have hb8 := (hx8 (77, tnc τ) (n_fst rfl) (n_fst rfl) (n_fst rfl)).trans hb7
  refine x_put hC (n := (75, tnc τ)) xf_X5_275_5 xd_5 rfl dX5_child_72 (q := 75) rfl ho8 rfl rfl rfl ?_
  have hx9 : FX (kidP (tnc τ)) g8 (xu g8 (75, tnc τ) (some (a_17, xO 5 [.ref wa, .int (nI (tnc τ)), .int (nI (sN w1)), .int (nI (sN w2)), .int (-1), .int (-1), .int 0, .null, .int 0]))) := FX.r0.u _ _ (kidP_c (tnc τ)).1 _
  have hE9 := hE8.fx hx9 (kidP_o _)
  have hz9 := hz8.fx hx9 (kidP_o _)
  have hQ9 := hQ8.trans hx9
  have hs9 := hs8.f0 (g1 := xu g8 (75, tnc τ) (some (a_17, xO 5 [.ref wa, .int (nI (tnc τ)), .int (nI (sN w1)), .int (nI (sN w2)), .int (-1), .int (-1), .int 0, .null, .int 0]))) (xu_ne (n_fst rfl))
  have hT9 := hT8.up (k := 75) (i := tnc τ) (by first | exact Or.inl ⟨by decide, Nat.le_refl _⟩ | exact Or.inr ⟨by decide, Nat.le_refl _⟩) (some (a_17, xO 5 [.ref wa, .int (nI (tnc τ)), .int (nI (sN w1)), .int (nI (sN w2)), .int (-1), .int (-1), .int 0, .null, .int 0]))
  have ho9 : xu g8 (75, tnc τ) (some (a_17, xO 5 [.ref wa, .int (nI (tnc τ)), .int (nI (sN w1)), .int (nI (sN w2)), .int (-1), .int (-1), .int 0, .null, .int 0])) (75, tnc τ) = _ := xu_eq _ _ _
  have hq9 := (xu_ne (n_fst rfl) : xu g8 (75, tnc τ) (some (a_17, xO 5 [.ref wa, .int (nI (tnc τ)), .int (nI (sN w1)), .int (nI (sN w2)), .int (-1), .int (-1), .int 0, .null, .int 0])) (76, tnc τ) = _).trans hq8
  have hb9 := (xu_ne (n_fst rfl) : xu g8 (75, tnc τ) (some (a_17, xO 5 [.ref wa, .int (nI (tnc τ)), .int (nI (sN w1)), .int (nI (sN w2)), .int (-1), .int (-1), .int 0, .null, .int 0])) (77, tnc τ) = _).trans hb8
  obtain ⟨at9, bd9, pl9, nb9, wh9, sn9, sg9, wd9, hc9⟩ := hs9.sc
  have hTb9 := hT9
  obtain ⟨la9, lk9, hU9, hV9, hW9, -⟩ := hTb9
  obtain ⟨dc9, mc9, hVl9, -⟩ := hV9
  obtain ⟨dk9, mk9, hWl9, -⟩ := hW9
  refine x_aloadr_n hC dX5_child_75 (q := 76) rfl rfl ?_
  refine x_get hC xf_X5_18_4 dX5_child_76 (q := 79) rfl (n := (60, 0)) hc9 rfl ?_
  refine x_get hC xf_X5_252_2 dX5_child_79 (q := 82) rfl (n := (70, 0)) hU9 rfl ?_
  have hTz := hT9
  obtain ⟨laz, lkz, hUz, hVz, hWz, hKz, hQz, h6z⟩ := hTz
  obtain ⟨rfl, rfl⟩ : la9 = laz ∧ lk9 = lkz := tw_inj hU9 hUz
  refine x_aloadr_n hC dX5_child_82 (q := 83) rfl rfl ?_
  refine x_callV hC xv_X5_141 dX5_child_83 (q := 86) rfl rfl (m_tadd h0 _ (nl := (71, 0)) (nd := (72, 0)) (n2 := (75, tnc τ)) (d0 := d0) (n := tnc τ) (ad := ca) rfl rfl rfl (n_fst rfl) (n_fst rfl) (n_fst rfl) (n_fst rfl) hVz (by omega) hz9 ho9 q2169) (nn := (71, 0)) hVl9 rfl rfl (Nat.le_of_ble_eq_true rfl) ⟨(by (try dsimp only); omega), (by (try dsimp only); omega)⟩ ⟨(by (try dsimp only); omega), (by (try dsimp only); omega)⟩ (fun v g1 hp => ?_)
  obtain ⟨rfl, hLz, hgz⟩ := hp
  refine x_pop hC dX5_child_86 (q := 87) rfl rfl ?_
  exact x_vret hC hr dX5_child_87 (by (try dsimp only); omega) (by (try dsimp only); omega) ⟨a_17, 0, rfl, TWadd_c (pq := 0) hT9 hUz hLz hgz ho9 hq9 hb9 hn6, hs9.f0 (hgz _ (n_fst rfl) (n_fst rfl)), fun n q => (hgz n (fun e => by rw [e] at q; cases q) (fun e => by rw [e] at q; cases q)).trans (hQ9 n q)⟩

set_option maxHeartbeats 4000000 in
set_option maxRecDepth 100000 in
theorem m_X5_kiln_ {l : Launch} {s0 : State} {D : va_G} (h0 : x0 l s0 D) (g : xG) {sc : Nat} {Z : Nat × Nat × Nat} {tx : List Nat} {A V B : Nat → Nat} {d0 fr to op : Nat} (hE : PE g Z tx A V B) (hS : KS0 s0 A V B) (hz : xE0 s0 g d0) {τ : tS} {fo : Nat → Option Nat} {ca ka pa : Nat → Nat} (hT : TW g Z.2.1 d0 τ fo ca ka pa) (hN : TN g τ) {w1 : List Nat} {ts : List Tk} (hq : PSt g sc Z tx fr to op false ((1, nkw (tnk τ)) :: (1, cW 5) :: (2, w1) :: ts)) (hb0 : 1 ≤ sN w1) (hb1 : sN w1 ≤ 6) (hn6 : tnk τ < 3) (bg : Int32) : xMet l s0 D yX5_kiln cX5_kiln 3 none ((xr 12 16 200 500)) [.ref sc, .int bg] g (fun r g1 => ∃ (a pq : Nat), r = none ∧ TW g1 Z.2.1 d0 (tKlnS τ (sN w1)) fo ca (fun j => if j = tnk τ then a else ka j) (fun j => if j = tnk τ then pq else pa j) ∧ PSt g1 sc Z tx fr to op false ts ∧ FX (klnP (tnk τ)) g g1) := by
  refine xMet.of h0 (by decide +kernel) rfl ?_
  intro zp ze zs zm za zb zf zc hC hr hnm
  obtain ⟨at0, bd0, pl0, nb0, wh0, sn0, sg0, wd0, hc0⟩ := hq.sc
  have hE0 := hE
  have hz0 := hz
  have hT0 := hT
  have hs0 := hq
  have hQ0 : FX (klnP (tnk τ)) g g := FX.r0
  have hTb0 := hT0
  obtain ⟨la0, lk0, hU0, hV0, hW0, -⟩ := hTb0
  obtain ⟨dc0, mc0, hVl0, -⟩ := hV0
  obtain ⟨dk0, mk0, hWl0, -⟩ := hW0
  refine x_aloadr_n hC dX5_kiln_0 (q := 1) rfl rfl ?_
  refine x_aloadr_n hC dX5_kiln_1 (q := 2) rfl rfl ?_
  refine x_get hC xf_X5_18_4 dX5_kiln_2 (q := 5) rfl (n := (60, 0)) hc0 rfl ?_
  refine x_get hC xf_X5_277_2 dX5_kiln_5 (q := 8) rfl (n := (70, 0)) hU0 rfl ?_
  refine x_callV hC xv_X5_255 dX5_kiln_8 (q := 11) rfl rfl (m_J3_size h0 g hWl0) (nn := (73, 0)) hWl0 rfl rfl (Nat.le_of_ble_eq_true rfl) ⟨(by (try dsimp only); omega), (by (try dsimp only); omega)⟩ ⟨(by (try dsimp only); omega), (by (try dsimp only); omega)⟩ (fun v g1 hp => ?_)
  obtain ⟨rfl, hg1⟩ := hp
  replace hg1 := hg1.symm
  subst hg1
  refine x_iconst hC dX5_kiln_11 (q := 12) rfl (v := (3)) (by decide) ?_
  refine x_iload_n hC dX5_kiln_12 (q := 13) rfl rfl ?_
  refine x_callV hC xv_X5_257 dX5_kiln_13 (q := 16) rfl rfl (m_X5_space h0 g sc (x := tnk τ) (y := 3) (by omega) (by decide) (by omega) _) (nn := (60, 0)) hc0 rfl rfl (Nat.le_of_ble_eq_true rfl) ⟨(by (try dsimp only); omega), (by (try dsimp only); omega)⟩ ⟨(by (try dsimp only); omega), (by (try dsimp only); omega)⟩ (fun v g1 hp => ?_)
  obtain ⟨rfl, hg1⟩ := hp
  replace hg1 := hg1.symm
  subst hg1
  refine x_new hC (fs := [.null, .int 0, .int 0, .int 0, .null]) (78, tnk τ) xc_6 q754 q755 q103 dX5_kiln_16 (q := 19) rfl rfl (hN.2 _ (Nat.le_refl _)).1 (fun j hj => by match j, hj with | 0, _ => rfl | 1, _ => rfl | 2, _ => rfl | 3, _ => rfl | 4, _ => rfl | j + 5, h => exact absurd h (by omega)) (by (try dsimp only); omega) (by (try dsimp only); omega) (fun a_16 => ?_)
  have hx1 : FX (klnP (tnk τ)) g (xu g (78, tnk τ) (some (a_16, xO 6 [.null, .int 0, .int 0, .int 0, .null]))) := FX.r0.u _ _ (klnP_c (tnk τ)).1 _
  have hE1 := hE0.fx hx1 (klnP_o _)
  have hz1 := hz0.fx hx1 (klnP_o _)
  have hs1 : PSt (xu g (78, tnk τ) (some (a_16, xO 6 [.null, .int 0, .int 0, .int 0, .null]))) sc Z tx fr to op false _ := hs0.f0 (xu_ne (n_fst rfl))
  have hT1 : TW (xu g (78, tnk τ) (some (a_16, xO 6 [.null, .int 0, .int 0, .int 0, .null]))) Z.2.1 d0 τ fo ca ka pa := hT0.up (k := 78) (i := tnk τ) (by first | exact Or.inl ⟨by decide, Nat.le_refl _⟩ | exact Or.inr ⟨by decide, Nat.le_refl _⟩) _
  have hQ1 := hQ0.trans hx1
  obtain ⟨at1, bd1, pl1, nb1, wh1, sn1, sg1, wd1, hc1⟩ := hs1.sc
  refine x_dup hC dX5_kiln_19 (q := 20) rfl rfl ?_
  refine x_aloadr_n hC dX5_kiln_20 (q := 21) rfl rfl ?_
  refine x_callV hC xv_X5_263 dX5_kiln_21 (q := 24) rfl rfl (m_X5_newName h0 _ hE1 hS hs1 (nkw_own _ (by omega)) (cz := 2) (sz := 20) (sR_f (by decide) (by decide) _) hT1 (fun c hc q => by have := congrArg (fun l => l.getD 0 0) q; have h9 : (99 : Nat) = 107 := this; omega) (fun c hc q => by have := congrArg (fun l => l.getD 1 0) q; simp only [nkw] at this; have h9 : 97 + c = 97 + tnk τ := this; omega)) (nn := (60, 0)) hc1 rfl rfl (Nat.le_of_ble_eq_true rfl) ⟨(by (try dsimp only); omega), (by (try dsimp only); omega)⟩ ⟨(by (try dsimp only); omega), (by (try dsimp only); omega)⟩ (fun v g2 hp => ?_)
  obtain ⟨wa, wv, rfl, hx2, hs2, y1, y2, y3, y4⟩ := hp
  have hE2 := hE1.px hx2
  have hz2 := hz1.pf (PF.px (N := 0) hx2)
  have hT2 := hT1.ext (TF.px hx2)
  have hQ2 := hQ1.trans (FX.px hx2 rfl rfl rfl)
  obtain ⟨at2, bd2, pl2, nb2, wh2, sn2, sg2, wd2, hc2⟩ := hs2.sc
  have hTb2 := hT2
  obtain ⟨la2, lk2, hU2, hV2, hW2, -⟩ := hTb2
  obtain ⟨dc2, mc2, hVl2, -⟩ := hV2
  obtain ⟨dk2, mk2, hWl2, -⟩ := hW2
  have hk2 := (hx2 (78, tnk τ) (n_fst rfl) (n_fst rfl) (n_fst rfl)).trans (xu_eq _ _ _)
  have hp2 := ((hx2 (79, tnk τ) (n_fst rfl) (n_fst rfl) (n_fst rfl)).trans (xu_ne (n_fst rfl))).trans (hN.2 _ (Nat.le_refl _)).2.1
  refine x_aloadr_n hC dX5_kiln_24 (q := 25) rfl rfl ?_
  refine x_get hC xf_X5_18_4 dX5_kiln_25 (q := 28) rfl (n := (60, 0)) hc2 rfl ?_
  refine x_get hC xf_X5_277_2 dX5_kiln_28 (q := 31) rfl (n := (70, 0)) hU2 rfl ?_
  refine x_callV hC xv_X5_255 dX5_kiln_31 (q := 34) rfl rfl (m_J3_size h0 _ hWl2) (nn := (73, 0)) hWl2 rfl rfl (Nat.le_of_ble_eq_true rfl) ⟨(by (try dsimp only); omega), (by (try dsimp only); omega)⟩ ⟨(by (try dsimp only); omega), (by (try dsimp only); omega)⟩ (fun v g1 hp => ?_)
  obtain ⟨rfl, hg1⟩ := hp
  replace hg1 := hg1.symm
  subst hg1
  refine x_callI hC xv_X5_282 dX5_kiln_34 (q := 37) rfl rfl (m_X9_init h0 _ (n := (78, tnk τ)) (np := (79, tnk τ)) rfl rfl hk2 hp2) rfl (Nat.le_of_ble_eq_true rfl) ⟨(by (try dsimp only); omega), (by (try dsimp only); omega)⟩ ⟨(by (try dsimp only); omega), (by (try dsimp only); omega)⟩ (fun v g1 hp => ?_)
  obtain ⟨pq, rfl, hg1⟩ := hp
  replace hg1 := hg1.symm
  subst hg1
  refine x_ren (61, 0) (80, tnk τ) rfl rfl (by rw [xu_ne (n_fst rfl), xu_ne (n_fst rfl), hx2 _ (n_fst rfl) (n_fst rfl) (n_fst rfl), xu_ne (n_fst rfl)]; exact (hN.2 _ (Nat.le_refl _)).2.2.1) ?_
  refine x_ren (62, 0) (81, tnk τ) rfl rfl (by rw [xu_ne (n_fst rfl), xu_ne (n_fst rfl), xu_ne (n_fst rfl), xu_ne (n_fst rfl), hx2 _ (n_fst rfl) (n_fst rfl) (n_fst rfl), xu_ne (n_fst rfl)]; exact (hN.2 _ (Nat.le_refl _)).2.2.2) ?_
  rw [show xu (xu (xu (xu g2 (79, tnk τ) (some (pq, xAr (.object "KilnBench$Child") 6 (fun _ => none)))) (78, tnk τ) (some (a_16, xO 6 [.ref wa, .int (nI (tnk τ)), .int 0, .int (-1), .ref pq]))) (61, 0) none) (80, tnk τ) ((xu (xu g2 (79, tnk τ) (some (pq, xAr (.object "KilnBench$Child") 6 (fun _ => none)))) (78, tnk τ) (some (a_16, xO 6 [.ref wa, .int (nI (tnk τ)), .int 0, .int (-1), .ref pq]))) (61, 0)) (62, 0) = some (wv, xAi .byte (nkw (tnk τ)).length (sL (nkw (tnk τ)))) by rw [xu_ne (n_fst rfl), xu_ne (n_fst rfl), xu_ne (n_fst rfl), xu_ne (n_fst rfl)]; exact y2, show (xu (xu g2 (79, tnk τ) (some (pq, xAr (.object "KilnBench$Child") 6 (fun _ => none)))) (78, tnk τ) (some (a_16, xO 6 [.ref wa, .int (nI (tnk τ)), .int 0, .int (-1), .ref pq]))) (61, 0) = some (wa, tStr wv) by rw [xu_ne (n_fst rfl), xu_ne (n_fst rfl)]; exact y1]
  have hx3 : FX (klnP (tnk τ)) g2 (xu (xu (xu (xu (xu (xu g2 (79, tnk τ) (some (pq, xAr (.object "KilnBench$Child") 6 (fun _ => none)))) (78, tnk τ) (some (a_16, xO 6 [.ref wa, .int (nI (tnk τ)), .int 0, .int (-1), .ref pq]))) (61, 0) none) (80, tnk τ) (some (wa, tStr wv))) (62, 0) none) (81, tnk τ) (some (wv, xAi .byte (nkw (tnk τ)).length (sL (nkw (tnk τ)))))) := (((((((FX.r0 (P := klnP (tnk τ))).u _ _ (klnP_c _).2.1 _).u _ _ (klnP_c _).1 _).u _ _ rfl _).u _ _ (klnP_c _).2.2.1 _).u _ _ rfl _).u _ _ (klnP_c _).2.2.2 _)
  have hE3 := hE2.fx hx3 (klnP_o _)
  have hz3 := hz2.fx hx3 (klnP_o _)
  have hQ3 := hQ2.trans hx3
  have hs3 := hs2.f0 (g1 := (xu (xu (xu (xu (xu (xu g2 (79, tnk τ) (some (pq, xAr (.object "KilnBench$Child") 6 (fun _ => none)))) (78, tnk τ) (some (a_16, xO 6 [.ref wa, .int (nI (tnk τ)), .int 0, .int (-1), .ref pq]))) (61, 0) none) (80, tnk τ) (some (wa, tStr wv))) (62, 0) none) (81, tnk τ) (some (wv, xAi .byte (nkw (tnk τ)).length (sL (nkw (tnk τ))))))) (by rw [xu_ne (n_fst rfl), xu_ne (n_fst rfl), xu_ne (n_fst rfl), xu_ne (n_fst rfl), xu_ne (n_fst rfl), xu_ne (n_fst rfl)])
  have hT3 : TW (xu (xu (xu (xu (xu (xu g2 (79, tnk τ) (some (pq, xAr (.object "KilnBench$Child") 6 (fun _ => none)))) (78, tnk τ) (some (a_16, xO 6 [.ref wa, .int (nI (tnk τ)), .int 0, .int (-1), .ref pq]))) (61, 0) none) (80, tnk τ) (some (wa, tStr wv))) (62, 0) none) (81, tnk τ) (some (wv, xAi .byte (nkw (tnk τ)).length (sL (nkw (tnk τ)))))) Z.2.1 d0 τ fo ca ka pa := (((((hT2.up (k := 79) (i := tnk τ) (by first | exact Or.inl ⟨by decide, Nat.le_refl _⟩ | exact Or.inr ⟨by decide, Nat.le_refl _⟩) _).up (k := 78) (i := tnk τ) (by first | exact Or.inl ⟨by decide, Nat.le_refl _⟩ | exact Or.inr ⟨by decide, Nat.le_refl _⟩) _).up0 (k := 61) rfl _).up (k := 80) (i := tnk τ) (by first | exact Or.inl ⟨by decide, Nat.le_refl _⟩ | exact Or.inr ⟨by decide, Nat.le_refl _⟩) _).up0 (k := 62) rfl _).up (k := 81) (i := tnk τ) (by first | exact Or.inl ⟨by decide, Nat.le_refl _⟩ | exact Or.inr ⟨by decide, Nat.le_refl _⟩) _
  obtain ⟨at3, bd3, pl3, nb3, wh3, sn3, sg3, wd3, hc3⟩ := hs3.sc
  have ho3 : (xu (xu (xu (xu (xu (xu g2 (79, tnk τ) (some (pq, xAr (.object "KilnBench$Child") 6 (fun _ => none)))) (78, tnk τ) (some (a_16, xO 6 [.ref wa, .int (nI (tnk τ)), .int 0, .int (-1), .ref pq]))) (61, 0) none) (80, tnk τ) (some (wa, tStr wv))) (62, 0) none) (81, tnk τ) (some (wv, xAi .byte (nkw (tnk τ)).length (sL (nkw (tnk τ)))))) (78, tnk τ) = (some (a_16, xO 6 [.ref wa, .int (nI (tnk τ)), .int 0, .int (-1), .ref pq])) := by rw [xu_ne (n_fst rfl), xu_ne (n_fst rfl), xu_ne (n_fst rfl), xu_ne (n_fst rfl), xu_eq]
  have hq3 : (xu (xu (xu (xu (xu (xu g2 (79, tnk τ) (some (pq, xAr (.object "KilnBench$Child") 6 (fun _ => none)))) (78, tnk τ) (some (a_16, xO 6 [.ref wa, .int (nI (tnk τ)), .int 0, .int (-1), .ref pq]))) (61, 0) none) (80, tnk τ) (some (wa, tStr wv))) (62, 0) none) (81, tnk τ) (some (wv, xAi .byte (nkw (tnk τ)).length (sL (nkw (tnk τ)))))) (80, tnk τ) = some (wa, tStr wv) := by rw [xu_ne (n_fst rfl), xu_ne (n_fst rfl), xu_eq]
  have hb3 : (xu (xu (xu (xu (xu (xu g2 (79, tnk τ) (some (pq, xAr (.object "KilnBench$Child") 6 (fun _ => none)))) (78, tnk τ) (some (a_16, xO 6 [.ref wa, .int (nI (tnk τ)), .int 0, .int (-1), .ref pq]))) (61, 0) none) (80, tnk τ) (some (wa, tStr wv))) (62, 0) none) (81, tnk τ) (some (wv, xAi .byte (nkw (tnk τ)).length (sL (nkw (tnk τ)))))) (81, tnk τ) = some (wv, xAi .byte (nkw (tnk τ)).length (sL (nkw (tnk τ)))) := xu_eq _ _ _
  have hr3 : (xu (xu (xu (xu (xu (xu g2 (79, tnk τ) (some (pq, xAr (.object "KilnBench$Child") 6 (fun _ => none)))) (78, tnk τ) (some (a_16, xO 6 [.ref wa, .int (nI (tnk τ)), .int 0, .int (-1), .ref pq]))) (61, 0) none) (80, tnk τ) (some (wa, tStr wv))) (62, 0) none) (81, tnk τ) (some (wv, xAi .byte (nkw (tnk τ)).length (sL (nkw (tnk τ)))))) (79, tnk τ) = some (pq, xAr (.object "KilnBench$Child") 6 (fun _ => none)) := by rw [xu_ne (n_fst rfl), xu_ne (n_fst rfl), xu_ne (n_fst rfl), xu_ne (n_fst rfl), xu_ne (n_fst rfl), xu_eq]
  refine x_astorer_n hC dX5_kiln_37 (q := 38) rfl rfl ?_
  refine x_aloadr_n hC dX5_kiln_38 (q := 39) rfl rfl ?_
  refine x_ldcwS hC (xk_5 h0 hS) dX5_kiln_39 (q := 42) rfl ?_
  refine x_callV hC xv_X5_244 dX5_kiln_42 (q := 45) rfl rfl (m_X5_asks h0 _ 5 rfl hS hE3 hs3 (cz := 2) (sz := 20) (sR_f (by decide) (by decide) _)) (nn := (60, 0)) hc3 rfl rfl (Nat.le_of_ble_eq_true rfl) ⟨(by (try dsimp only); omega), (by (try dsimp only); omega)⟩ ⟨(by (try dsimp only); omega), (by (try dsimp only); omega)⟩ (fun v g4 hp => ?_)
  obtain ⟨rfl, hx4, hs4⟩ := hp
  have hE4 := hE3.px hx4
  have hz4 := hz3.pf (PF.px (N := 0) hx4)
  have hT4 := hT3.ext (TF.px hx4)
  have hQ4 := hQ3.trans (FX.px hx4 rfl rfl rfl)
  obtain ⟨at4, bd4, pl4, nb4, wh4, sn4, sg4, wd4, hc4⟩ := hs4.sc
  have ho4 := (hx4 (78, tnk τ) (n_fst rfl) (n_fst rfl) (n_fst rfl)).trans ho3
  have hq4 := (hx4 (80, tnk τ) (n_fst rfl) (n_fst rfl) (n_fst rfl)).trans hq3
  have hb4 := (hx4 (81, tnk τ) (n_fst rfl) (n_fst rfl) (n_fst rfl)).trans hb3
  have hr4 := (hx4 (79, tnk τ) (n_fst rfl) (n_fst rfl) (n_fst rfl)).trans hr3
  refine x_aloadr_n hC dX5_kiln_45 (q := 46) rfl rfl ?_
  refine x_aloadr_n hC dX5_kiln_46 (q := 47) rfl rfl ?_
  refine x_iconst hC dX5_kiln_47 (q := 48) rfl (v := (1)) (by decide) ?_
  refine x_bipush hC dX5_kiln_48 (q := 50) rfl (v := (6)) (by decide) ?_
  refine x_callV hC xv_X5_208 dX5_kiln_50 (q := 53) rfl rfl (m_X5_number h0 _ (lo := 1) (hi := 6) hE4 hs4 hb0 hb1 (by decide) (cz := 2) (sz := 20) (sR_f (by decide) (by decide) _)) (nn := (60, 0)) hc4 rfl rfl (Nat.le_of_ble_eq_true rfl) ⟨(by (try dsimp only); omega), (by (try dsimp only); omega)⟩ ⟨(by (try dsimp only); omega), (by (try dsimp only); omega)⟩ (fun v g5 hp => ?_)
  obtain ⟨rfl, hx5, hs5⟩ := hp
  have hE5 := hE4.px hx5
  have hz5 := hz4.pf (PF.px (N := 0) hx5)
  have hT5 := hT4.ext (TF.px hx5)
  have hQ5 := hQ4.trans (FX.px hx5 rfl rfl rfl)
  obtain ⟨at5, bd5, pl5, nb5, wh5, sn5, sg5, wd5, hc5⟩ := hs5.sc
  have ho5 := (hx5 (78, tnk τ) (n_fst rfl) (n_fst rfl) (n_fst rfl)).trans ho4
  have hq5 := (hx5 (80, tnk τ) (n_fst rfl) (n_fst rfl) (n_fst rfl)).trans hq4
  have hb5 := (hx5 (81, tnk τ) (n_fst rfl) (n_fst rfl) (n_fst rfl)).trans hb4
  have hr5 := (hx5 (79, tnk τ) (n_fst rfl) (n_fst rfl) (n_fst rfl)).trans hr4
  refine x_put hC (n := (78, tnk τ)) xf_X5_285_6 xd_6 rfl dX5_kiln_53 (q := 56) rfl ho5 rfl rfl rfl ?_
  have hx6 : FX (klnP (tnk τ)) g5 (xu g5 (78, tnk τ) (some (a_16, xO 6 [.ref wa, .int (nI (tnk τ)), .int (nI (sN w1)), .int (-1), .ref pq]))) := FX.r0.u _ _ (klnP_c (tnk τ)).1 _
  have hE6 := hE5.fx hx6 (klnP_o _)
  have hz6 := hz5.fx hx6 (klnP_o _)
  have hQ6 := hQ5.trans hx6
  have hs6 := hs5.f0 (g1 := xu g5 (78, tnk τ) (some (a_16, xO 6 [.ref wa, .int (nI (tnk τ)), .int (nI (sN w1)), .int (-1), .ref pq]))) (xu_ne (n_fst rfl))
  have hT6 := hT5.up (k := 78) (i := tnk τ) (by first | exact Or.inl ⟨by decide, Nat.le_refl _⟩ | exact Or.inr ⟨by decide, Nat.le_refl _⟩) (some (a_16, xO 6 [.ref wa, .int (nI (tnk τ)), .int (nI (sN w1)), .int (-1), .ref pq]))
  have ho6 : xu g5 (78, tnk τ) (some (a_16, xO 6 [.ref wa, .int (nI (tnk τ)), .int (nI (sN w1)), .int (-1), .ref pq])) (78, tnk τ) = _ := xu_eq _ _ _
  have hq6 := (xu_ne (n_fst rfl) : xu g5 (78, tnk τ) (some (a_16, xO 6 [.ref wa, .int (nI (tnk τ)), .int (nI (sN w1)), .int (-1), .ref pq])) (80, tnk τ) = _).trans hq5
  have hb6 := (xu_ne (n_fst rfl) : xu g5 (78, tnk τ) (some (a_16, xO 6 [.ref wa, .int (nI (tnk τ)), .int (nI (sN w1)), .int (-1), .ref pq])) (81, tnk τ) = _).trans hb5
  obtain ⟨at6, bd6, pl6, nb6, wh6, sn6, sg6, wd6, hc6⟩ := hs6.sc
  have hr6 := (xu_ne (n_fst rfl) : xu g5 (78, tnk τ) (some (a_16, xO 6 [.ref wa, .int (nI (tnk τ)), .int (nI (sN w1)), .int (-1), .ref pq])) (79, tnk τ) = _).trans hr5
  have hTb6 := hT6
  obtain ⟨la6, lk6, hU6, hV6, hW6, -⟩ := hTb6
  obtain ⟨dc6, mc6, hVl6, -⟩ := hV6
  obtain ⟨dk6, mk6, hWl6, -⟩ := hW6
  refine x_aloadr_n hC dX5_kiln_56 (q := 57) rfl rfl ?_
  refine x_get hC xf_X5_18_4 dX5_kiln_57 (q := 60) rfl (n := (60, 0)) hc6 rfl ?_
  refine x_get hC xf_X5_277_2 dX5_kiln_60 (q := 63) rfl (n := (70, 0)) hU6 rfl ?_
  have hTz := hT6
  obtain ⟨laz, lkz, hUz, hVz, hWz, hKz, hQz, h6z⟩ := hTz
  obtain ⟨rfl, rfl⟩ : la6 = laz ∧ lk6 = lkz := tw_inj hU6 hUz
  refine x_aloadr_n hC dX5_kiln_63 (q := 64) rfl rfl ?_
  refine x_callV hC xv_X5_141 dX5_kiln_64 (q := 67) rfl rfl (m_tadd h0 _ (nl := (73, 0)) (nd := (74, 0)) (n2 := (78, tnk τ)) (d0 := d0) (n := tnk τ) (ad := ka) rfl rfl rfl (n_fst rfl) (n_fst rfl) (n_fst rfl) (n_fst rfl) hWz (by omega) hz6 ho6 q2179) (nn := (73, 0)) hWl6 rfl rfl (Nat.le_of_ble_eq_true rfl) ⟨(by (try dsimp only); omega), (by (try dsimp only); omega)⟩ ⟨(by (try dsimp only); omega), (by (try dsimp only); omega)⟩ (fun v g1 hp => ?_)
  obtain ⟨rfl, hLz, hgz⟩ := hp
  refine x_pop hC dX5_kiln_67 (q := 68) rfl rfl ?_
  exact x_vret hC hr dX5_kiln_68 (by (try dsimp only); omega) (by (try dsimp only); omega) ⟨a_16, pq, rfl, TWadd_k (pq := pq) hT6 hUz hLz hgz ho6 hq6 hb6 hr6 hn6, hs6.f0 (hgz _ (n_fst rfl) (n_fst rfl)), fun n q => (hgz n (fun e => by rw [e] at q; cases q) (fun e => by rw [e] at q; cases q)).trans (hQ6 n q)⟩
