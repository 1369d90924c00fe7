/-! chains are parsed -/
theorem ch_init {g : xG} {N a la d0 sb v1 : Nat} {x0 : Option (Nat × xE)} (hF : FR N g) : 
    (fun g1 : xG => PF N g g1 ∧ FR (N + 5) g1 ∧ CK0 g1 N a d0) (xu (xu (xu (xu (xu g (200, N) x0) (200, N + 4) (some (v1, xAi .byte 16 (fun _ => 0)))) (200, N + 3) (some (sb, xO 22 [.ref v1, .int 0, .int 0, .int 0]))) (200, N + 1) (some (la, xO 21 [.int 0, .ref d0, .int 0]))) (200, N) (some (a, xO 15 [.ref la, .ref sb]))) := by
  refine ⟨((((PF.r0.u (Nat.le_refl _) _).u (by omega) _).u (by omega) _).u (by omega) _).u (Nat.le_refl _) _, (((((hF.le (by omega)).u (by omega) _).u (by omega) _).u (by omega) _).u (by omega) _).u (by omega) _, la, sb, v1, xu_eq _ _ _, ?_, ?_, ?_, ?_⟩
  · rw [xu_ne (n_snd (by omega)), xu_eq]
  · rw [xu_ne (n_snd (by omega)), xu_ne (n_snd (by omega)), xu_ne (n_snd (by omega)), xu_ne (n_snd (by omega)), xu_ne (n_snd (by omega))]
    exact hF.1 _ (by omega)
  · rw [xu_ne (n_snd (by omega)), xu_ne (n_snd (by omega)), xu_eq]
  · rw [xu_ne (n_snd (by omega)), xu_ne (n_snd (by omega)), xu_ne (n_snd (by omega)), xu_eq]
theorem pMore_len3 {isS : List Tk → Bool} {P : pP} (hP : pLen P) {n : Nat} {sgs : List Nat} {fs : List (aEnv → Int64)} {d : Nat} {tk : List Tk} {r : pR} (hn : isS tk = true) (h : pMore isS P n sgs fs d tk = some r) : r.2.2.length + 2 ≤ tk.length := by
  cases n with
  | zero => cases h
  | succ n =>
    unfold pMore at h
    rw [if_pos hn] at h
    obtain ⟨r2, e, h⟩ := bind_is h
    have a1 := hP _ _ e
    have a2 := pMore_len2 hP _ _ _ _ _ _ h
    rw [List.length_tail] at a1
    omega
/-- the state of a chain's loop: heap, meanings, signs, addresses, next free name, tokens, whether it is the first round, whether a token is in hand, depth, rounds left, the last sign -/
abbrev cA1 : Type := xG × List (aEnv → Int64) × List Nat × (Nat → Nat) × Nat × List Tk × Bool × Bool × Nat × Nat × Option Value
def CI (isS : List Tk → Bool) (P : pP) (g : xG) (sc : Nat) (Z : Nat × Nat × Nat) (tx : List Nat) (fr to op N N1 a tl : Nat) (r0 : pR) (x : cA1) : Prop :=
  pMore isS P x.2.2.2.2.2.2.2.2.2.1 x.2.2.1 x.2.1 x.2.2.2.2.2.2.2.2.1 x.2.2.2.2.2.1 = some r0 ∧ PF N g x.1 ∧ FR x.2.2.2.2.1 x.1 ∧ PSt x.1 sc Z tx fr to op x.2.2.2.2.2.2.2.1 x.2.2.2.2.2.1 ∧ CK x.1 N1 a x.2.1.length x.2.2.2.1 x.2.2.1 ∧
  (∀ j, j < x.2.1.length → ∃ lo hi, N ≤ lo ∧ hi ≤ x.2.2.2.2.1 ∧ (hi ≤ N1 ∨ N1 + 5 ≤ lo) ∧ aR (fW lo hi x.1) x.2.2.2.2.2.2.2.2.1 false (x.2.2.2.1 j) (x.2.1.getD j (fun _ => 0))) ∧ N1 + 5 ≤ x.2.2.2.2.1 ∧ 0 < x.2.1.length ∧ x.2.1.length + x.2.2.2.2.2.2.2.2.2.1 ≤ 10 ∧ ((∀ j, j < x.2.2.1.length → aSign (nI (x.2.2.1.getD j 0))) ∧ sA x.2.2.1) ∧ x.2.2.2.2.2.1.length < tl ∧ (x.2.2.2.2.2.2.1 = true → isS x.2.2.2.2.2.1 = true)
theorem sA_1 {w : List Nat} {c : Nat} (h : sA w) (hc : c < 128) : sA (w ++ [c]) := sA_app h (fun j => by
  cases j with
  | zero => exact hc
  | succ j => exact (by decide : (0 : Nat) < 128))
theorem aS_1 {w : List Nat} {c : Nat} (h : ∀ j, j < w.length → aSign (nI (w.getD j 0))) (hc : aSign (nI c)) : ∀ j, j < (w ++ [c]).length → aSign (nI ((w ++ [c]).getD j 0)) := by
  intro j hj
  rw [List.length_append] at hj
  by_cases e : j < w.length
  · rw [gD_app e]; exact h j e
  · rw [gD_appr (by omega), show j - w.length = 0 by simp at hj; omega]
    exact hc

set_option maxHeartbeats 4000000 in
set_option maxRecDepth 100000 in
theorem m_X5_product_A {l : Launch} {s0 : State} {D : va_G} (h0 : x0 l s0 D) {lv fr to F Lo kp : Nat} {P : pP} (hP : cP l s0 D yX5_part cX5_part 2 "KilnBench$Sum" false false F Lo kp lv fr to P) (hkp : kp ≤ 4) (hLP : pLen P) (g : xG) {sc : Nat} {Z : Nat × Nat × Nat} {tx : List Nat} {A V B : Nat → Nat} {d0 op N : Nat} (hE : PE g Z tx A V B) (hS : KS0 s0 A V B) (hz : xE0 s0 g d0) (hF : FR N g) {sn : Bool} {tk : List Tk} {r1 : pR} (hq : PSt g sc Z tx fr to op sn tk) (hop : op + lv ≤ 7) (q1 : P tk = some r1) (hF9 : 12 ≤ F) (hLo : 500 ≤ Lo) (hn : isP r1.2.2 = false) : xMet l s0 D yX5_product cX5_product 4 (some (.object "KilnBench$Sum")) ((fRoom (F + 1) 6 (Lo + 30) tk r1.2.2)) [.ref sc] g (fPost g sc Z tx fr to op N true false r1) := by
  refine xMet.of h0 (by decide +kernel) rfl ?_
  intro zp ze zs zm za zb zf zc hC hr hnm
  obtain ⟨fs0, hc0⟩ := hq.cell
  have hE0 := hE
  have hz0 := hz
  have hs0 := hq
  have hF0 := hF
  have l1 := hLP _ _ q1
  refine x_aloadr_n hC dX5_product_0 (q := 1) rfl rfl ?_
  refine x_callV hC xv_X5_199 dX5_product_1 (q := 4) rfl rfl (hP _ sc Z tx A V B d0 op N _ tk _ hE0 hS hz0 hs0 hF0 hop q1) (nn := (60, 0)) hc0 rfl rfl (Nat.le_of_ble_eq_true rfl) ⟨(by (try dsimp only); omega), (by (try dsimp only); omega)⟩ ⟨(by (try dsimp only); omega), (by (try dsimp only); omega)⟩ (fun v g1 hp => ?_)
  obtain ⟨a1, N1, rfl, hN1, hpf1, hF1, hs1, hR1⟩ := hp
  have hE1 := hE0.pf hpf1
  have hz1 := hz0.pf hpf1
  obtain ⟨fs1, hc1⟩ := hs1.cell
  refine x_astorer_n hC dX5_product_4 (q := 5) rfl rfl ?_
  refine x_aloadr_n hC dX5_product_5 (q := 6) rfl rfl ?_
  refine x_callV hC xv_X5_202 dX5_product_6 (q := 9) rfl rfl (m_X5_isProduct h0 _ hE1 hs1 (cz := 2) (sz := 20) (sR_f (by decide) (by decide) _)) (nn := (60, 0)) hc1 rfl rfl (Nat.le_of_ble_eq_true rfl) ⟨(by (try dsimp only); omega), (by (try dsimp only); omega)⟩ ⟨(by (try dsimp only); omega), (by (try dsimp only); omega)⟩ (fun v g1 hp => ?_)
  obtain ⟨rfl, hx2, hs2⟩ := hp
  have hE2 := hE1.px hx2
  have hz2 := hz1.pf (PF.px (N := 0) hx2)
  have hF2 := hF1.px hx2
  obtain ⟨fs2, hc2⟩ := hs2.cell
  refine x_if_ne hC dX5_product_9 (q := 12) rfl (tgt := 14) rfl (fun h9 => ?_) (fun h9 => ?_)
  · exact absurd (show b01 false = 0 from rfl) (by rw [hn] at h9; exact h9)
  refine x_aloadr_n hC dX5_product_12 (q := 13) rfl rfl ?_
  exact x_aret hC hr (Or.inl ⟨_, rfl⟩) (Or.inr ⟨_, rfl⟩) dX5_product_13 (by (try dsimp only); omega) (by (try dsimp only); omega) ⟨a1, N1, rfl, hN1, hpf1.trans (PF.px hx2) hN1, hF2, hs2, aR_into hR1 (Nat.le_refl _) (Nat.le_refl _) (Nat.le_refl _) (fun i e1 e2 => by rw [hx2 _ (n_fst rfl) (n_fst rfl) (n_fst rfl)])⟩

theorem CK.len {g : xG} {i a cnt : Nat} {ad : Nat → Nat} {sgs : List Nat} (h : CK g i a cnt ad sgs) : sgs.length = cnt := by
  obtain ⟨la, sb, dl, v, cap, mc, ml, fa, f, -, -, -, -, -, -, -, h⟩ := h
  exact h

set_option maxHeartbeats 4000000 in
set_option maxRecDepth 100000 in
theorem m_X5_product_B {l : Launch} {s0 : State} {D : va_G} (h0 : x0 l s0 D) {lv fr to F Lo kp : Nat} {P : pP} (hP : cP l s0 D yX5_part cX5_part 2 "KilnBench$Sum" false false F Lo kp lv fr to P) (hkp : kp ≤ 4) (hLP : pLen P) (g : xG) {sc : Nat} {Z : Nat × Nat × Nat} {tx : List Nat} {A V B : Nat → Nat} {d0 op N : Nat} (hE : PE g Z tx A V B) (hS : KS0 s0 A V B) (hz : xE0 s0 g d0) (hF : FR N g) {sn : Bool} {tk : List Tk} {r1 : pR} (hq : PSt g sc Z tx fr to op sn tk) (hop : op + lv ≤ 7) (q1 : P tk = some r1) (hF9 : 12 ≤ F) (hLo : 500 ≤ Lo) {r0 : pR} (hn : isP r1.2.2 = true) (q2 : pMore isP P 9 [42] [r1.1] r1.2.1 r1.2.2 = some r0) (hl0 : r0.2.2.length + 2 ≤ r1.2.2.length) : xMet l s0 D yX5_product cX5_product 4 (some (.object "KilnBench$Sum")) ((fRoom (F + 1) 6 (Lo + 30) tk r0.2.2)) [.ref sc] g (fPost g sc Z tx fr to op N true false r0) := by
  refine xMet.of h0 (by decide +kernel) rfl ?_
  intro zp ze zs zm za zb zf zc hC hr hnm
  obtain ⟨fs0, hc0⟩ := hq.cell
  have hE0 := hE
  have hz0 := hz
  have hs0 := hq
  have hF0 := hF
  have l1 := hLP _ _ q1
  refine x_aloadr_n hC dX5_product_0 (q := 1) rfl rfl ?_
  refine x_callV hC xv_X5_199 dX5_product_1 (q := 4) rfl rfl (hP _ sc Z tx A V B d0 op N _ tk _ hE0 hS hz0 hs0 hF0 hop q1) (nn := (60, 0)) hc0 rfl rfl (Nat.le_of_ble_eq_true rfl) ⟨(by (try dsimp only); omega), (by (try dsimp only); omega)⟩ ⟨(by (try dsimp only); omega), (by (try dsimp only); omega)⟩ (fun v g1 hp => ?_)
  obtain ⟨a1, N1, rfl, hN1, hpf1, hF1, hs1, hR1⟩ := hp
  have hE1 := hE0.pf hpf1
  have hz1 := hz0.pf hpf1
  obtain ⟨fs1, hc1⟩ := hs1.cell
  refine x_astorer_n hC dX5_product_4 (q := 5) rfl rfl ?_
  refine x_aloadr_n hC dX5_product_5 (q := 6) rfl rfl ?_
  refine x_callV hC xv_X5_202 dX5_product_6 (q := 9) rfl rfl (m_X5_isProduct h0 _ hE1 hs1 (cz := 2) (sz := 20) (sR_f (by decide) (by decide) _)) (nn := (60, 0)) hc1 rfl rfl (Nat.le_of_ble_eq_true rfl) ⟨(by (try dsimp only); omega), (by (try dsimp only); omega)⟩ ⟨(by (try dsimp only); omega), (by (try dsimp only); omega)⟩ (fun v gt2 hp => ?_)
  obtain ⟨rfl, hx2, hs2⟩ := hp
  have hE2 := hE1.px hx2
  have hz2 := hz1.pf (PF.px (N := 0) hx2)
  have hF2 := hF1.px hx2
  obtain ⟨fs2, hc2⟩ := hs2.cell
  refine x_if_ne hC dX5_product_9 (q := 12) rfl (tgt := 14) rfl (fun h9 => ?_) (fun h9 => ?_)
  · have hpx := hpf1.trans (PF.px hx2) hN1
    have hEz := hE2
    have hzz := hz2
    have hFz := hF2
    have hsz := hs2
    have hRz : aR (fW N N1 gt2) r1.2.1 false a1 r1.1 := aR_into hR1 (Nat.le_refl _) (Nat.le_refl _) (Nat.le_refl _) (fun i e1 e2 => hx2 _ (n_fst rfl) (n_fst rfl) (n_fst rfl))
    refine x_new hC (fs := [.null, .null]) (200, N1) xc_15 q992 q993 q112 dX5_product_14 (q := 17) rfl rfl (hFz.1 N1 (Nat.le_refl _)) (fun j hj => by match j, hj with | 0, _ => rfl | 1, _ => rfl | j + 2, h => exact absurd h (by omega)) (by (try dsimp only); omega) (by (try dsimp only); omega) (fun a_14 => ?_)
    refine x_dup hC dX5_product_17 (q := 18) rfl rfl ?_
    refine x_callIN hC xv_X5_194 dX5_product_18 (q := 21) rfl rfl (m_X18_init h0 _ (n := (200, N1)) (nl := (200, N1 + 1)) (ns := (200, N1 + 3)) (nv := (200, N1 + 4)) rfl rfl rfl rfl (by rw [xu_ne (n_snd (by omega))]; exact hFz.1 _ (by omega)) (by rw [xu_ne (n_snd (by omega))]; exact hFz.1 _ (by omega)) (by rw [xu_ne (n_snd (by omega))]; exact hFz.1 _ (by omega)) (n_snd (by omega)) (n_snd (by omega)) (n_snd (by omega)) (hzz.up rfl _) (xu_eq _ _ _)) rfl (Nat.le_of_ble_eq_true rfl) ⟨(by (try dsimp only); omega), (by (try dsimp only); omega)⟩ ⟨(by (try dsimp only); omega), (by (try dsimp only); omega)⟩ (fun v g1 hp => ?_)
    obtain ⟨la, sb, v1, rfl, hg1⟩ := hp
    replace hg1 := hg1.symm
    subst hg1
    have hci := ch_init (a := a_14) (la := la) (d0 := d0) (sb := sb) (v1 := v1) (x0 := some (a_14, xO 15 [.null, .null])) hFz
    obtain ⟨hpi, hFi, hCi⟩ := hci
    obtain ⟨k1, x1, hk1, hk2, he1, hx9⟩ := aR_cell hRz
    refine x_astorer_n hC dX5_product_21 (q := 22) rfl rfl ?_
    refine x_aloadr_n hC dX5_product_22 (q := 23) rfl rfl ?_
    refine x_bipush hC dX5_product_23 (q := 25) rfl (v := (42)) (by decide) ?_
    refine x_aloadr_n hC dX5_product_25 (q := 26) rfl rfl ?_
    refine x_callV hC xv_X5_195 dX5_product_26 (q := 29) rfl rfl (m_X18_comes_B h0 _ (i := N1) (k := k1) (c := 42) (Or.inl hk2) hCi (hzz.pf hpi) ((hpi.at (by omega)).trans he1) hx9 hFi.2 (by decide)) (nn := (200, N1)) (xu_eq _ _ _) rfl rfl (Nat.le_of_ble_eq_true rfl) ⟨(by (try dsimp only); omega), (by (try dsimp only); omega)⟩ ⟨(by (try dsimp only); omega), (by (try dsimp only); omega)⟩ (fun v g1 hp => ?_)
    obtain ⟨rfl, hcf, hCK⟩ := hp
    have hpx2 := (hpx.trans hpi hN1).trans (hcf.pf (Nat.le_refl _)) hN1
    have hE5 := hE.pf hpx2
    have hz5 := hz.pf hpx2
    have hF5 := hcf.fr hFi (Nat.le_refl _)
    have hs5 := hcf.st (((((hsz.u _).u _).u _).u _).u _)
    refine x_widen (k0 := 20 * (tk.length - r1.2.2.length - 1) + 12) (n0 := 5000 * (tk.length - r1.2.2.length - 1) + 4300) (by (try dsimp only); omega) (by (try dsimp only); omega) ?_
    refine x_loop (S := (fun x : cA1 => ((20 * (tk.length - x.2.2.2.2.2.1.length - 1) + (if x.2.2.2.2.2.2.1 then 12 else 4)), (5000 * (tk.length - x.2.2.2.2.2.1.length - 1) + (if x.2.2.2.2.2.2.1 then 4300 else 100)), x.1, ([some (.ref sc), some (.ref a1), some (.ref a_14), x.2.2.2.2.2.2.2.2.2.2] : xL), ([] : List Value)))) (Inv := CI isP P g sc Z tx fr to op N N1 a_14 tk.length r0) (μ := fun x => x.2.2.2.2.2.2.2.2.2.1) ?_ (_, [r1.1], [42], fun _ => a1, N1 + 5, r1.2.2, true, true, r1.2.1, 9, none) ⟨q2, hpx2, hF5, hs5, hCK, fun j hj => ⟨N, N1, Nat.le_refl _, by (try dsimp only); omega, Or.inl (Nat.le_refl _), ?_⟩, Nat.le_refl _, (by decide : 0 < 1), (by decide : 1 + 9 ≤ 10), ⟨fun j hj => ?_, fun j => ?_⟩, l1, fun _ => hn⟩
    rotate_left
    · have hj0 : j = 0 := Nat.lt_one_iff.mp hj
      subst hj0
      exact aR_into hRz (Nat.le_refl _) (Nat.le_refl _) (Nat.le_refl _) (fun i e1 e2 => (hcf.at (by omega)).trans (hpi.at (by omega)))
    · have hj0 : j = 0 := Nat.lt_one_iff.mp hj
      subst hj0
      exact (by unfold aSign; decide : aSign (nI 42))
    · cases j with
      | zero => exact (by decide : 42 < 128)
      | succ j => exact (by decide : (0 : Nat) < 128)
    intro x hi ih
    obtain ⟨G, fs, sgs, ad, N2, tkc, t, sn2, dd, n, lx⟩ := x
    obtain ⟨w1, w2, w3, w4, w5, w6, w7, w8, w9, w10, w11, w12⟩ := hi
    dsimp only at w1 w2 w3 w4 w5 w6 w7 w8 w9 w10 w11 w12 ih ⊢
    obtain ⟨n, rfl⟩ : ∃ n', n = n' + 1 := by
      cases n with
      | zero => cases w1
      | succ n => exact ⟨n, rfl⟩
    have hl8 : r0.2.2.length + (if t then 2 else 0) ≤ tkc.length := by
      cases t with
      | false => exact pMore_len2 hLP _ _ _ _ _ _ w1
      | true => exact pMore_len3 hLP (w12 rfl) w1
    have hE5 := hE.pf w2
    have hz5 := hz.pf w2
    have hF5 := w3
    have hs5 := w4
    obtain ⟨fs5, hc5⟩ := hs5.cell
    refine x_aloadr_n hC dX5_product_29 (q := 30) rfl rfl ?_
    refine x_callV hC xv_X5_202 dX5_product_30 (q := 33) rfl rfl (m_X5_isProduct h0 _ hE5 hs5 (cz := 2) (sz := 20) (sR_f (by decide) (by decide) _)) (nn := (60, 0)) hc5 rfl rfl (Nat.le_of_ble_eq_true rfl) ⟨(by (try dsimp only); omega), (by (try dsimp only); omega)⟩ ⟨by cases t <;> (dsimp only [fRoom]; simp only [if_true, Bool.false_eq_true, if_false] at hl8 ⊢; omega), by cases t <;> (dsimp only [fRoom]; simp only [if_true, Bool.false_eq_true, if_false] at hl8 ⊢; omega)⟩ (fun v gt6 hp => ?_)
    obtain ⟨rfl, hx6, hs6⟩ := hp
    have hE6 := hE5.px hx6
    have hz6 := hz5.pf (PF.px (N := 0) hx6)
    have hF6 := hF5.px hx6
    obtain ⟨fs6, hc6⟩ := hs6.cell
    refine x_if_eq hC dX5_product_33 (q := 36) rfl (tgt := 58) rfl (fun h33 => ?_) (fun h33 => ?_)
    · have hno : isP tkc = false := by
        cases hb : isP tkc with
        | false => rfl
        | true => rw [hb] at h33; exact absurd h33 (by decide)
      have w1b := w1
      unfold pMore at w1b
      rw [if_neg (by rw [hno]; decide)] at w1b
      have ht : t = false := by
        cases t with
        | false => rfl
        | true => rw [w12 rfl] at hno; cases hno
      subst ht
      cases w1b
      refine x_aloadr_n hC dX5_product_58 (q := 59) rfl rfl ?_
      exact x_aret hC hr (Or.inl ⟨_, rfl⟩) (Or.inr ⟨_, rfl⟩) dX5_product_59 (by dsimp only [fRoom]; simp only [Bool.false_eq_true, if_false] at hl8 ⊢; omega) (by dsimp only [fRoom]; simp only [Bool.false_eq_true, if_false] at hl8 ⊢; omega) ⟨a_14, N2, rfl, by omega, w2.trans (PF.px hx6) (by omega), hF6, hs6, (w5.ext (fun j e1 e2 => hx6 _ (n_fst rfl) (n_fst rfl) (n_fst rfl))).aR (fun j hj => by
            obtain ⟨lo, hi, v1, v2, v3, v4⟩ := w6 j hj
            exact ⟨lo, hi, v1, v2, aR_into v4 (Nat.le_refl _) (Nat.le_refl _) (Nat.le_refl _) (fun i e1 e2 => hx6 _ (n_fst rfl) (n_fst rfl) (n_fst rfl))⟩) (by omega) (by omega) rfl w8 (by omega) (fun j hj => w10.1 j (by rw [w5.len]; exact hj)) w10.2⟩
    have hys : isP tkc = true := by
      cases hb : isP tkc with
      | true => rfl
      | false => rw [hb] at h33; exact absurd rfl h33
    have w1b := w1
    unfold pMore at w1b
    rw [if_pos hys] at w1b
    obtain ⟨r2, q3, w1c⟩ := bind_is w1b
    obtain ⟨sg1, htk1, hsg8, hsgn⟩ := isP_is hys
    have l3 := hLP _ _ q3
    have l7 := pMore_len2 hLP _ _ _ _ _ _ w1c
    have hsg0 : sgn tkc = sg1 := by rw [htk1]; rfl
    rw [hsg0] at w1c
    have l4 : tkc.length = tkc.tail.length + 1 := by
      have := congrArg List.length htk1
      exact this
    obtain ⟨gz8, hgz8⟩ : ∃ gz8, gz8 = gt6 := ⟨_, rfl⟩
    subst hgz8
    obtain ⟨at0, bd, pl, nb, sg, wd, hcS, hat, hb1, hb2, hpl, htk⟩ := hs6.wh
    obtain ⟨q5, -⟩ | ⟨t5, ts5, q5, h1, h2, h3⟩ := htk
    · rw [q5] at htk1; cases htk1
    rw [q5] at htk1
    injection htk1 with htk2 _
    rw [htk2] at h3
    have hsg1 : sg1 = sg := by
      have := (h3.2.2 rfl).1
      injection this
    rw [← hsg1] at hcS
    refine x_aloadr_n hC dX5_product_36 (q := 37) rfl rfl ?_
    refine x_get hC xf_X5_53_4 dX5_product_37 (q := 40) rfl (n := (60, 0)) hcS rfl ?_
    refine x_istore_n hC dX5_product_40 (q := 41) rfl rfl ?_
    refine x_aloadr_n hC dX5_product_41 (q := 42) rfl rfl ?_
    refine x_iconst hC dX5_product_42 (q := 43) rfl (v := (0)) (by decide) ?_
    refine x_put hC (n := (60, 0)) xf_X5_29_4 xd_4 rfl dX5_product_43 (q := 46) rfl hcS rfl rfl rfl ?_
    have hs9 := PSt.nx (g := gz8) (sc := sc) (Z := Z) (tx := tx) (fr := fr) (to := to) (op := op) (t := t5) (nb := nb) (wh := hdk tkc) (sg := sg1) (wd := wd) (op2 := 0) (fr2 := 0) (to2 := 0) hat hb1 hb2 hpl h2
    have htl : tkc.tail = ts5 := by rw [q5]; rfl
    have l9 : tkc.tail.length = ts5.length := by rw [htl]
    obtain ⟨fs9, hc9⟩ := hs9.cell
    refine x_aloadr_n hC dX5_product_46 (q := 47) rfl rfl ?_
    refine x_iload_n hC dX5_product_47 (q := 48) rfl rfl ?_
    refine x_aloadr_n hC dX5_product_48 (q := 49) rfl rfl ?_
    refine x_callV hC xv_X5_199 dX5_product_49 (q := 52) rfl rfl (hP _ sc Z tx A V B d0 op N2 _ ts5 r2 (hE6.pf (PF.r0.u60 (N := 0) _)) hS (hz6.pf (PF.r0.u60 (N := 0) _)) hs9 (hF6.u60 _) hop (by rw [← htl]; exact q3)) (nn := (60, 0)) hc9 rfl rfl (Nat.le_of_ble_eq_true rfl) ⟨(by (try dsimp only); omega), (by (try dsimp only); omega)⟩ ⟨by cases t <;> (dsimp only [fRoom]; simp only [if_true, Bool.false_eq_true, if_false] at hl8 ⊢; omega), by cases t <;> (dsimp only [fRoom]; simp only [if_true, Bool.false_eq_true, if_false] at hl8 ⊢; omega)⟩ (fun v g1 hp => ?_)
    obtain ⟨a2, N3, rfl, hN3, hpf3, hF3, hs10, hR3⟩ := hp
    have hpf4 := ((PF.px hx6).u60 _).trans hpf3 (Nat.le_refl N2)
    have hpf5 := w2.trans hpf4 (by omega)
    have hCK3 := w5.ext (fun j e1 e2 => hpf4.at (by omega))
    obtain ⟨k3, x3, hk3, hk4, he3, hx3⟩ := aR_cell hR3
    obtain ⟨la3, sb3, hn9⟩ : ∃ la sb, _ = some (a_14, xO 15 [.ref la, .ref sb]) := ⟨_, _, hCK3.choose_spec.choose_spec.choose_spec.choose_spec.choose_spec.choose_spec.choose_spec.choose_spec.choose_spec.1⟩
    refine x_callV hC xv_X5_195 dX5_product_52 (q := 55) rfl rfl (m_X18_comes_A h0 _ (i := N1) (k := k3) (c := sg1) (Or.inr (by omega)) hCK3 (by omega) he3 hx3 hF3.2 hsg8) (nn := (200, N1)) hn9 rfl rfl (Nat.le_of_ble_eq_true rfl) ⟨(by (try dsimp only); omega), (by (try dsimp only); omega)⟩ ⟨by cases t <;> (dsimp only [fRoom]; simp only [if_true, Bool.false_eq_true, if_false] at hl8 ⊢; omega), by cases t <;> (dsimp only [fRoom]; simp only [if_true, Bool.false_eq_true, if_false] at hl8 ⊢; omega)⟩ (fun v g1 hp => ?_)
    obtain ⟨rfl, hcf3, hCK4⟩ := hp
    refine x_goto hC dX5_product_55 (tgt := 29) rfl ?_
    refine x_widen (k0 := 20 * (tk.length - r2.2.2.length - 1) + 4) (n0 := 5000 * (tk.length - r2.2.2.length - 1) + 100) (by
      rw [htl] at l3
      have l5 := w11
      have l6 : tkc.length = ts5.length + 1 := by rw [l4, htl]
      cases t <;> (dsimp only [fRoom]; simp only [if_true, Bool.false_eq_true, if_false] at hl8 ⊢; omega)) (by
      rw [htl] at l3
      have l5 := w11
      have l6 : tkc.length = ts5.length + 1 := by rw [l4, htl]
      cases t <;> (dsimp only [fRoom]; simp only [if_true, Bool.false_eq_true, if_false] at hl8 ⊢; omega)) ?_
    exact ih (_, fs ++ [r2.1], sgs ++ [sg1], fun j => if j = fs.length then a2 else ad j, N3, r2.2.2, false, false, max dd r2.2.1, n, some (.int (nI sg1))) ⟨w1c, hpf5.trans (hcf3.pf (Nat.le_refl _)) (by omega), hcf3.fr hF3 (by (try dsimp only); omega), hcf3.st hs10, by rw [List.length_append]; exact hCK4, fun j hj => by
      dsimp only at hj ⊢
      rw [List.length_append] at hj
      by_cases e : j = fs.length
      · subst e
        refine ⟨N2, N3, by omega, Nat.le_refl _, Or.inr (by omega), ?_⟩
        rw [if_pos rfl, gD_appr (Nat.le_refl _), Nat.sub_self]
        exact aR_into hR3 (Nat.le_refl _) (Nat.le_refl _) (by omega) (fun i e1 e2 => hcf3.at (by omega))
      · have hj2 : j < fs.length := by simp at hj; omega
        obtain ⟨lo, hi, v1, v2, v3, v4⟩ := w6 j hj2
        refine ⟨lo, hi, v1, by omega, v3, ?_⟩
        rw [if_neg e, gD_app hj2]
        exact aR_into v4 (Nat.le_refl _) (Nat.le_refl _) (by omega) (fun i e1 e2 => (hcf3.at (by omega)).trans (hpf4.at (by omega))), by (try dsimp only); omega, by dsimp only; rw [List.length_append]; exact Nat.succ_pos _, by dsimp only; rw [List.length_append]; simp only [List.length_singleton]; omega, ⟨aS_1 w10.1 hsgn, sA_1 w10.2 hsg8⟩, by dsimp only; rw [htl] at l3; omega, fun q => by cases q⟩ (by (try dsimp only); omega)
  · exact absurd (show b01 true = 0 by rw [hn] at h9; exact h9) (by decide)

theorem c_X5_product {l : Launch} {s0 : State} {D : va_G} (h0 : x0 l s0 D) {lv fr to F Lo kp : Nat} {P : pP} (hP : cP l s0 D yX5_part cX5_part 2 "KilnBench$Sum" false false F Lo kp lv fr to P) (hkp : kp ≤ 4) (hLP : pLen P) (hF9 : 12 ≤ F) (hLo : 500 ≤ Lo) : cP l s0 D yX5_product cX5_product 4 "KilnBench$Sum" false true (F + 1) (Lo + 30) 6 lv fr to (pCh isP P 42) := by
  intro g sc Z tx A V B d0 op N sn tk r hE hS hz hq hF hop hp
  obtain ⟨r1, q1, ⟨hn, rfl⟩ | ⟨hn, q2⟩⟩ := pCh_is hp
  · exact m_X5_product_A h0 hP hkp hLP g hE hS hz hF hq hop q1 hF9 hLo hn
  · exact m_X5_product_B h0 hP hkp hLP g hE hS hz hF hq hop q1 hF9 hLo hn q2 (pMore_len3 hLP hn q2)

set_option maxHeartbeats 4000000 in
set_option maxRecDepth 100000 in
theorem m_X5_sum_A {l : Launch} {s0 : State} {D : va_G} (h0 : x0 l s0 D) {lv fr to F Lo kp : Nat} {P : pP} (hP : cP l s0 D yX5_product cX5_product 4 "KilnBench$Sum" false true F Lo kp lv fr to P) (hkp : kp ≤ 6) (hLP : pLen P) (g : xG) {sc : Nat} {Z : Nat × Nat × Nat} {tx : List Nat} {A V B : Nat → Nat} {d0 op N : Nat} (hE : PE g Z tx A V B) (hS : KS0 s0 A V B) (hz : xE0 s0 g d0) (hF : FR N g) {sn : Bool} {tk : List Tk} {r1 : pR} (hq : PSt g sc Z tx fr to op sn tk) (hop : op + lv ≤ 7) (q1 : P tk = some r1) (hF9 : 12 ≤ F) (hLo : 500 ≤ Lo) (hn : isQ r1.2.2 = false) : xMet l s0 D yX5_sum_2 cX5_sum_2 4 (some (.object "KilnBench$Sum")) ((fRoom (F + 1) 6 (Lo + 30) tk r1.2.2)) [.ref sc] g (fPost g sc Z tx fr to op N true false r1) := by
  refine xMet.of h0 (by decide +kernel) rfl ?_
  intro zp ze zs zm za zb zf zc hC hr hnm
  obtain ⟨fs0, hc0⟩ := hq.cell
  have hE0 := hE
  have hz0 := hz
  have hs0 := hq
  have hF0 := hF
  have l1 := hLP _ _ q1
  have hn1 : hdS r1.2.2 43 = false := by
    unfold isQ at hn
    rw [Bool.or_eq_false_iff] at hn
    exact hn.1
  have hn2 : hdS r1.2.2 45 = false := by
    unfold isQ at hn
    rw [Bool.or_eq_false_iff] at hn
    exact hn.2
  refine x_aloadr_n hC dX5_sum_2_0 (q := 1) rfl rfl ?_
  refine x_callV hC xv_X5_189 dX5_sum_2_1 (q := 4) rfl rfl (hP _ sc Z tx A V B d0 op N _ tk _ hE0 hS hz0 hs0 hF0 hop q1) (nn := (60, 0)) hc0 rfl rfl (Nat.le_of_ble_eq_true rfl) ⟨(by (try dsimp only); omega), (by (try dsimp only); omega)⟩ ⟨(by (try dsimp only); omega), (by (try dsimp only); omega)⟩ (fun v g1 hp => ?_)
  obtain ⟨a1, N1, rfl, hN1, hpf1, hF1, hs1, hR1⟩ := hp
  have hE1 := hE0.pf hpf1
  have hz1 := hz0.pf hpf1
  obtain ⟨fs1, hc1⟩ := hs1.cell
  refine x_astorer_n hC dX5_sum_2_4 (q := 5) rfl rfl ?_
  refine x_aloadr_n hC dX5_sum_2_5 (q := 6) rfl rfl ?_
  refine x_bipush hC dX5_sum_2_6 (q := 8) rfl (v := (43)) (by decide) ?_
  refine x_callV hC xv_X5_93 dX5_sum_2_8 (q := 11) rfl rfl (m_X5_isSign h0 _ hE1 hs1 (c := 43) (by decide) (cz := 0) (sz := 0) sR_t) (nn := (60, 0)) hc1 rfl rfl (Nat.le_of_ble_eq_true rfl) ⟨(by (try dsimp only); omega), (by (try dsimp only); omega)⟩ ⟨(by (try dsimp only); omega), (by (try dsimp only); omega)⟩ (fun v g1 hp => ?_)
  obtain ⟨rfl, hx2, hs2⟩ := hp
  have hE2 := hE1.px hx2
  have hz2 := hz1.pf (PF.px (N := 0) hx2)
  have hF2 := hF1.px hx2
  obtain ⟨fs2, hc2⟩ := hs2.cell
  refine x_if_ne hC dX5_sum_2_11 (q := 14) rfl (tgt := 25) rfl (fun h11 => ?_) (fun h11 => ?_)
  · exact absurd (show b01 false = 0 from rfl) (by rw [hn1] at h11; exact h11)
  refine x_aloadr_n hC dX5_sum_2_14 (q := 15) rfl rfl ?_
  refine x_bipush hC dX5_sum_2_15 (q := 17) rfl (v := (45)) (by decide) ?_
  refine x_callV hC xv_X5_93 dX5_sum_2_17 (q := 20) rfl rfl (m_X5_isSign h0 _ hE2 hs2 (c := 45) (by decide) (cz := 0) (sz := 0) sR_t) (nn := (60, 0)) hc2 rfl rfl (Nat.le_of_ble_eq_true rfl) ⟨(by (try dsimp only); omega), (by (try dsimp only); omega)⟩ ⟨(by (try dsimp only); omega), (by (try dsimp only); omega)⟩ (fun v g1 hp => ?_)
  obtain ⟨rfl, hx3, hs3⟩ := hp
  have hE3 := hE2.px hx3
  have hz3 := hz2.pf (PF.px (N := 0) hx3)
  have hF3 := hF2.px hx3
  obtain ⟨fs3, hc3⟩ := hs3.cell
  refine x_if_ne hC dX5_sum_2_20 (q := 23) rfl (tgt := 25) rfl (fun h20 => ?_) (fun h20 => ?_)
  · exact absurd (show b01 false = 0 from rfl) (by rw [hn2] at h20; exact h20)
  refine x_aloadr_n hC dX5_sum_2_23 (q := 24) rfl rfl ?_
  exact x_aret hC hr (Or.inl ⟨_, rfl⟩) (Or.inr ⟨_, rfl⟩) dX5_sum_2_24 (by (try dsimp only); omega) (by (try dsimp only); omega) ⟨a1, N1, rfl, hN1, hpf1.trans ((PF.px hx2).trans (PF.px hx3) (Nat.le_refl _)) hN1, hF3, hs3, aR_into hR1 (Nat.le_refl _) (Nat.le_refl _) (Nat.le_refl _) (fun i e1 e2 => by rw [hx3 _ (n_fst rfl) (n_fst rfl) (n_fst rfl), hx2 _ (n_fst rfl) (n_fst rfl) (n_fst rfl)])⟩

set_option maxHeartbeats 4000000 in
set_option maxRecDepth 100000 in
theorem m_X5_sum_B {l : Launch} {s0 : State} {D : va_G} (h0 : x0 l s0 D) {lv fr to F Lo kp : Nat} {P : pP} (hP : cP l s0 D yX5_product cX5_product 4 "KilnBench$Sum" false true F Lo kp lv fr to P) (hkp : kp ≤ 6) (hLP : pLen P) (g : xG) {sc : Nat} {Z : Nat × Nat × Nat} {tx : List Nat} {A V B : Nat → Nat} {d0 op N : Nat} (hE : PE g Z tx A V B) (hS : KS0 s0 A V B) (hz : xE0 s0 g d0) (hF : FR N g) {sn : Bool} {tk : List Tk} {r1 : pR} (hq : PSt g sc Z tx fr to op sn tk) (hop : op + lv ≤ 7) (q1 : P tk = some r1) (hF9 : 12 ≤ F) (hLo : 500 ≤ Lo) {r0 : pR} (hn : isQ r1.2.2 = true) (q2 : pMore isQ P 9 [43] [r1.1] r1.2.1 r1.2.2 = some r0) (hl0 : r0.2.2.length + 2 ≤ r1.2.2.length) : xMet l s0 D yX5_sum_2 cX5_sum_2 4 (some (.object "KilnBench$Sum")) ((fRoom (F + 1) 6 (Lo + 30) tk r0.2.2)) [.ref sc] g (fPost g sc Z tx fr to op N true false r0) := by
  refine xMet.of h0 (by decide +kernel) rfl ?_
  intro zp ze zs zm za zb zf zc hC hr hnm
  obtain ⟨fs0, hc0⟩ := hq.cell
  have hE0 := hE
  have hz0 := hz
  have hs0 := hq
  have hF0 := hF
  have l1 := hLP _ _ q1
  refine x_aloadr_n hC dX5_sum_2_0 (q := 1) rfl rfl ?_
  refine x_callV hC xv_X5_189 dX5_sum_2_1 (q := 4) rfl rfl (hP _ sc Z tx A V B d0 op N _ tk _ hE0 hS hz0 hs0 hF0 hop q1) (nn := (60, 0)) hc0 rfl rfl (Nat.le_of_ble_eq_true rfl) ⟨(by (try dsimp only); omega), (by (try dsimp only); omega)⟩ ⟨(by (try dsimp only); omega), (by (try dsimp only); omega)⟩ (fun v g1 hp => ?_)
  obtain ⟨a1, N1, rfl, hN1, hpf1, hF1, hs1, hR1⟩ := hp
  have hE1 := hE0.pf hpf1
  have hz1 := hz0.pf hpf1
  obtain ⟨fs1, hc1⟩ := hs1.cell
  refine x_astorer_n hC dX5_sum_2_4 (q := 5) rfl rfl ?_
  refine x_aloadr_n hC dX5_sum_2_5 (q := 6) rfl rfl ?_
  refine x_bipush hC dX5_sum_2_6 (q := 8) rfl (v := (43)) (by decide) ?_
  refine x_callV hC xv_X5_93 dX5_sum_2_8 (q := 11) rfl rfl (m_X5_isSign h0 _ hE1 hs1 (c := 43) (by decide) (cz := 0) (sz := 0) sR_t) (nn := (60, 0)) hc1 rfl rfl (Nat.le_of_ble_eq_true rfl) ⟨(by (try dsimp only); omega), (by (try dsimp only); omega)⟩ ⟨(by (try dsimp only); omega), (by (try dsimp only); omega)⟩ (fun v gt2 hp => ?_)
  obtain ⟨rfl, hx2, hs2⟩ := hp
  have hE2 := hE1.px hx2
  have hz2 := hz1.pf (PF.px (N := 0) hx2)
  have hF2 := hF1.px hx2
  obtain ⟨fs2, hc2⟩ := hs2.cell
  refine x_if_ne hC dX5_sum_2_11 (q := 14) rfl (tgt := 25) rfl (fun h11 => ?_) (fun h11 => ?_)
  · have hpx := hpf1.trans (PF.px hx2) hN1
    have hEz := hE2
    have hzz := hz2
    have hFz := hF2
    have hsz := hs2
    have hRz : aR (fW N N1 gt2) r1.2.1 false a1 r1.1 := aR_into hR1 (Nat.le_refl _) (Nat.le_refl _) (Nat.le_refl _) (fun i e1 e2 => hx2 _ (n_fst rfl) (n_fst rfl) (n_fst rfl))
    refine x_new hC (fs := [.null, .null]) (200, N1) xc_15 q992 q993 q112 dX5_sum_2_25 (q := 28) rfl rfl (hFz.1 N1 (Nat.le_refl _)) (fun j hj => by match j, hj with | 0, _ => rfl | 1, _ => rfl | j + 2, h => exact absurd h (by omega)) (by (try dsimp only); omega) (by (try dsimp only); omega) (fun a_25 => ?_)
    refine x_dup hC dX5_sum_2_28 (q := 29) rfl rfl ?_
    refine x_callIN hC xv_X5_194 dX5_sum_2_29 (q := 32) rfl rfl (m_X18_init h0 _ (n := (200, N1)) (nl := (200, N1 + 1)) (ns := (200, N1 + 3)) (nv := (200, N1 + 4)) rfl rfl rfl rfl (by rw [xu_ne (n_snd (by omega))]; exact hFz.1 _ (by omega)) (by rw [xu_ne (n_snd (by omega))]; exact hFz.1 _ (by omega)) (by rw [xu_ne (n_snd (by omega))]; exact hFz.1 _ (by omega)) (n_snd (by omega)) (n_snd (by omega)) (n_snd (by omega)) (hzz.up rfl _) (xu_eq _ _ _)) rfl (Nat.le_of_ble_eq_true rfl) ⟨(by (try dsimp only); omega), (by (try dsimp only); omega)⟩ ⟨(by (try dsimp only); omega), (by (try dsimp only); omega)⟩ (fun v g1 hp => ?_)
    obtain ⟨la, sb, v1, rfl, hg1⟩ := hp
    replace hg1 := hg1.symm
    subst hg1
    have hci := ch_init (a := a_25) (la := la) (d0 := d0) (sb := sb) (v1 := v1) (x0 := some (a_25, xO 15 [.null, .null])) hFz
    obtain ⟨hpi, hFi, hCi⟩ := hci
    obtain ⟨k1, x1, hk1, hk2, he1, hx9⟩ := aR_cell hRz
    refine x_astorer_n hC dX5_sum_2_32 (q := 33) rfl rfl ?_
    refine x_aloadr_n hC dX5_sum_2_33 (q := 34) rfl rfl ?_
    refine x_bipush hC dX5_sum_2_34 (q := 36) rfl (v := (43)) (by decide) ?_
    refine x_aloadr_n hC dX5_sum_2_36 (q := 37) rfl rfl ?_
    refine x_callV hC xv_X5_195 dX5_sum_2_37 (q := 40) rfl rfl (m_X18_comes_B h0 _ (i := N1) (k := k1) (c := 43) (Or.inl hk2) hCi (hzz.pf hpi) ((hpi.at (by omega)).trans he1) hx9 hFi.2 (by decide)) (nn := (200, N1)) (xu_eq _ _ _) rfl rfl (Nat.le_of_ble_eq_true rfl) ⟨(by (try dsimp only); omega), (by (try dsimp only); omega)⟩ ⟨(by (try dsimp only); omega), (by (try dsimp only); omega)⟩ (fun v g1 hp => ?_)
    obtain ⟨rfl, hcf, hCK⟩ := hp
    have hpx2 := (hpx.trans hpi hN1).trans (hcf.pf (Nat.le_refl _)) hN1
    have hE5 := hE.pf hpx2
    have hz5 := hz.pf hpx2
    have hF5 := hcf.fr hFi (Nat.le_refl _)
    have hs5 := hcf.st (((((hsz.u _).u _).u _).u _).u _)
    refine x_widen (k0 := 20 * (tk.length - r1.2.2.length - 1) + 12) (n0 := 5000 * (tk.length - r1.2.2.length - 1) + 4300) (by (try dsimp only); omega) (by (try dsimp only); omega) ?_
    refine x_loop (S := (fun x : cA1 => ((20 * (tk.length - x.2.2.2.2.2.1.length - 1) + (if x.2.2.2.2.2.2.1 then 12 else 4)), (5000 * (tk.length - x.2.2.2.2.2.1.length - 1) + (if x.2.2.2.2.2.2.1 then 4300 else 100)), x.1, ([some (.ref sc), some (.ref a1), some (.ref a_25), x.2.2.2.2.2.2.2.2.2.2] : xL), ([] : List Value)))) (Inv := CI isQ P g sc Z tx fr to op N N1 a_25 tk.length r0) (μ := fun x => x.2.2.2.2.2.2.2.2.2.1) ?_ (_, [r1.1], [43], fun _ => a1, N1 + 5, r1.2.2, true, true, r1.2.1, 9, none) ⟨q2, hpx2, hF5, hs5, hCK, fun j hj => ⟨N, N1, Nat.le_refl _, by (try dsimp only); omega, Or.inl (Nat.le_refl _), ?_⟩, Nat.le_refl _, (by decide : 0 < 1), (by decide : 1 + 9 ≤ 10), ⟨fun j hj => ?_, fun j => ?_⟩, l1, fun _ => hn⟩
    rotate_left
    · have hj0 : j = 0 := Nat.lt_one_iff.mp hj
      subst hj0
      exact aR_into hRz (Nat.le_refl _) (Nat.le_refl _) (Nat.le_refl _) (fun i e1 e2 => (hcf.at (by omega)).trans (hpi.at (by omega)))
    · have hj0 : j = 0 := Nat.lt_one_iff.mp hj
      subst hj0
      exact (by unfold aSign; decide : aSign (nI 43))
    · cases j with
      | zero => exact (by decide : 43 < 128)
      | succ j => exact (by decide : (0 : Nat) < 128)
    intro x hi ih
    obtain ⟨G, fs, sgs, ad, N2, tkc, t, sn2, dd, n, lx⟩ := x
    obtain ⟨w1, w2, w3, w4, w5, w6, w7, w8, w9, w10, w11, w12⟩ := hi
    dsimp only at w1 w2 w3 w4 w5 w6 w7 w8 w9 w10 w11 w12 ih ⊢
    obtain ⟨n, rfl⟩ : ∃ n', n = n' + 1 := by
      cases n with
      | zero => cases w1
      | succ n => exact ⟨n, rfl⟩
    have hl8 : r0.2.2.length + (if t then 2 else 0) ≤ tkc.length := by
      cases t with
      | false => exact pMore_len2 hLP _ _ _ _ _ _ w1
      | true => exact pMore_len3 hLP (w12 rfl) w1
    have hE5 := hE.pf w2
    have hz5 := hz.pf w2
    have hF5 := w3
    have hs5 := w4
    obtain ⟨fs5, hc5⟩ := hs5.cell
    refine x_aloadr_n hC dX5_sum_2_40 (q := 41) rfl rfl ?_
    refine x_bipush hC dX5_sum_2_41 (q := 43) rfl (v := (43)) (by decide) ?_
    refine x_callV hC xv_X5_93 dX5_sum_2_43 (q := 46) rfl rfl (m_X5_isSign h0 _ hE5 hs5 (c := 43) (by decide) (cz := 2) (sz := 20) (sR_f (by decide) (by decide) _)) (nn := (60, 0)) hc5 rfl rfl (Nat.le_of_ble_eq_true rfl) ⟨(by (try dsimp only); omega), (by (try dsimp only); omega)⟩ ⟨by cases t <;> (dsimp only [fRoom]; simp only [if_true, Bool.false_eq_true, if_false] at hl8 ⊢; omega), by cases t <;> (dsimp only [fRoom]; simp only [if_true, Bool.false_eq_true, if_false] at hl8 ⊢; omega)⟩ (fun v gt6 hp => ?_)
    obtain ⟨rfl, hx6, hs6⟩ := hp
    have hE6 := hE5.px hx6
    have hz6 := hz5.pf (PF.px (N := 0) hx6)
    have hF6 := hF5.px hx6
    obtain ⟨fs6, hc6⟩ := hs6.cell
    refine x_if_ne hC dX5_sum_2_46 (q := 49) rfl (tgt := 58) rfl (fun h46 => ?_) (fun h46 => ?_)
    · have hys : isQ tkc = true := by unfold isQ; rw [show hdS tkc 43 = true from by
          cases hb : hdS tkc 43 with
          | true => rfl
          | false => rw [hb] at h46; exact absurd (show b01 false = 0 from rfl) h46]; rfl
      have w1b := w1
      unfold pMore at w1b
      rw [if_pos hys] at w1b
      obtain ⟨r2, q3, w1c⟩ := bind_is w1b
      obtain ⟨sg1, htk1, hsg8, hsgn⟩ := isQ_is hys
      have l3 := hLP _ _ q3
      have l7 := pMore_len2 hLP _ _ _ _ _ _ w1c
      have hsg0 : sgn tkc = sg1 := by rw [htk1]; rfl
      rw [hsg0] at w1c
      have l4 : tkc.length = tkc.tail.length + 1 := by
        have := congrArg List.length htk1
        exact this
      obtain ⟨gz8, hgz8⟩ : ∃ gz8, gz8 = gt6 := ⟨_, rfl⟩
      subst hgz8
      have hs8 := hs6
      have hE8 := hE6
      have hz8 := hz6
      have hF8 := hF6
      have hx8 := hx6
      obtain ⟨at0, bd, pl, nb, sg, wd, hcS, hat, hb1, hb2, hpl, htk⟩ := hs8.wh
      obtain ⟨q5, -⟩ | ⟨t5, ts5, q5, h1, h2, h3⟩ := htk
      · rw [q5] at htk1; cases htk1
      rw [q5] at htk1
      injection htk1 with htk2 _
      rw [htk2] at h3
      have hsg1 : sg1 = sg := by
        have := (h3.2.2 rfl).1
        injection this
      rw [← hsg1] at hcS
      refine x_aloadr_n hC dX5_sum_2_58 (q := 59) rfl rfl ?_
      refine x_get hC xf_X5_53_4 dX5_sum_2_59 (q := 62) rfl (n := (60, 0)) hcS rfl ?_
      refine x_istore_n hC dX5_sum_2_62 (q := 63) rfl rfl ?_
      refine x_aloadr_n hC dX5_sum_2_63 (q := 64) rfl rfl ?_
      refine x_iconst hC dX5_sum_2_64 (q := 65) rfl (v := (0)) (by decide) ?_
      refine x_put hC (n := (60, 0)) xf_X5_29_4 xd_4 rfl dX5_sum_2_65 (q := 68) rfl hcS rfl rfl rfl ?_
      have hs9 := PSt.nx (g := gz8) (sc := sc) (Z := Z) (tx := tx) (fr := fr) (to := to) (op := op) (t := t5) (nb := nb) (wh := hdk tkc) (sg := sg1) (wd := wd) (op2 := 0) (fr2 := 0) (to2 := 0) hat hb1 hb2 hpl h2
      have htl : tkc.tail = ts5 := by rw [q5]; rfl
      have l9 : tkc.tail.length = ts5.length := by rw [htl]
      obtain ⟨fs9, hc9⟩ := hs9.cell
      refine x_aloadr_n hC dX5_sum_2_68 (q := 69) rfl rfl ?_
      refine x_iload_n hC dX5_sum_2_69 (q := 70) rfl rfl ?_
      refine x_aloadr_n hC dX5_sum_2_70 (q := 71) rfl rfl ?_
      refine x_callV hC xv_X5_189 dX5_sum_2_71 (q := 74) rfl rfl (hP _ sc Z tx A V B d0 op N2 _ ts5 r2 (hE8.pf (PF.r0.u60 (N := 0) _)) hS (hz8.pf (PF.r0.u60 (N := 0) _)) hs9 (hF8.u60 _) hop (by rw [← htl]; exact q3)) (nn := (60, 0)) hc9 rfl rfl (Nat.le_of_ble_eq_true rfl) ⟨(by (try dsimp only); omega), (by (try dsimp only); omega)⟩ ⟨by cases t <;> (dsimp only [fRoom]; simp only [if_true, Bool.false_eq_true, if_false] at hl8 ⊢; omega), by cases t <;> (dsimp only [fRoom]; simp only [if_true, Bool.false_eq_true, if_false] at hl8 ⊢; omega)⟩ (fun v g1 hp => ?_)
      obtain ⟨a2, N3, rfl, hN3, hpf3, hF3, hs10, hR3⟩ := hp
      have hpf4 := ((PF.px hx8).u60 _).trans hpf3 (Nat.le_refl N2)
      have hpf5 := w2.trans hpf4 (by omega)
      have hCK3 := w5.ext (fun j e1 e2 => hpf4.at (by omega))
      obtain ⟨k3, x3, hk3, hk4, he3, hx3⟩ := aR_cell hR3
      obtain ⟨la3, sb3, hn9⟩ : ∃ la sb, _ = some (a_25, xO 15 [.ref la, .ref sb]) := ⟨_, _, hCK3.choose_spec.choose_spec.choose_spec.choose_spec.choose_spec.choose_spec.choose_spec.choose_spec.choose_spec.1⟩
      refine x_callV hC xv_X5_195 dX5_sum_2_74 (q := 77) rfl rfl (m_X18_comes_A h0 _ (i := N1) (k := k3) (c := sg1) (Or.inr (by omega)) hCK3 (by omega) he3 hx3 hF3.2 hsg8) (nn := (200, N1)) hn9 rfl rfl (Nat.le_of_ble_eq_true rfl) ⟨(by (try dsimp only); omega), (by (try dsimp only); omega)⟩ ⟨by cases t <;> (dsimp only [fRoom]; simp only [if_true, Bool.false_eq_true, if_false] at hl8 ⊢; omega), by cases t <;> (dsimp only [fRoom]; simp only [if_true, Bool.false_eq_true, if_false] at hl8 ⊢; omega)⟩ (fun v g1 hp => ?_)
      obtain ⟨rfl, hcf3, hCK4⟩ := hp
      refine x_goto hC dX5_sum_2_77 (tgt := 40) rfl ?_
      refine x_widen (k0 := 20 * (tk.length - r2.2.2.length - 1) + 4) (n0 := 5000 * (tk.length - r2.2.2.length - 1) + 100) (by
        rw [htl] at l3
        have l5 := w11
        have l6 : tkc.length = ts5.length + 1 := by rw [l4, htl]
        cases t <;> (dsimp only [fRoom]; simp only [if_true, Bool.false_eq_true, if_false] at hl8 ⊢; omega)) (by
        rw [htl] at l3
        have l5 := w11
        have l6 : tkc.length = ts5.length + 1 := by rw [l4, htl]
        cases t <;> (dsimp only [fRoom]; simp only [if_true, Bool.false_eq_true, if_false] at hl8 ⊢; omega)) ?_
      exact ih (_, fs ++ [r2.1], sgs ++ [sg1], fun j => if j = fs.length then a2 else ad j, N3, r2.2.2, false, true, max dd r2.2.1, n, some (.int (nI sg1))) ⟨w1c, hpf5.trans (hcf3.pf (Nat.le_refl _)) (by omega), hcf3.fr hF3 (by (try dsimp only); omega), hcf3.st hs10, by rw [List.length_append]; exact hCK4, fun j hj => by
        dsimp only at hj ⊢
        rw [List.length_append] at hj
        by_cases e : j = fs.length
        · subst e
          refine ⟨N2, N3, by omega, Nat.le_refl _, Or.inr (by omega), ?_⟩
          rw [if_pos rfl, gD_appr (Nat.le_refl _), Nat.sub_self]
          exact aR_into hR3 (Nat.le_refl _) (Nat.le_refl _) (by omega) (fun i e1 e2 => hcf3.at (by omega))
        · have hj2 : j < fs.length := by simp at hj; omega
          obtain ⟨lo, hi, v1, v2, v3, v4⟩ := w6 j hj2
          refine ⟨lo, hi, v1, by omega, v3, ?_⟩
          rw [if_neg e, gD_app hj2]
          exact aR_into v4 (Nat.le_refl _) (Nat.le_refl _) (by omega) (fun i e1 e2 => (hcf3.at (by omega)).trans (hpf4.at (by omega))), by (try dsimp only); omega, by dsimp only; rw [List.length_append]; exact Nat.succ_pos _, by dsimp only; rw [List.length_append]; simp only [List.length_singleton]; omega, ⟨aS_1 w10.1 hsgn, sA_1 w10.2 hsg8⟩, by dsimp only; rw [htl] at l3; omega, fun q => by cases q⟩ (by (try dsimp only); omega)
    have ha : hdS tkc 43 = false := by
      cases hb : hdS tkc 43 with
      | false => rfl
      | true => rw [hb] at h46; exact absurd (show b01 true = 0 from h46) (by decide)
    refine x_aloadr_n hC dX5_sum_2_49 (q := 50) rfl rfl ?_
    refine x_bipush hC dX5_sum_2_50 (q := 52) rfl (v := (45)) (by decide) ?_
    refine x_callV hC xv_X5_93 dX5_sum_2_52 (q := 55) rfl rfl (m_X5_isSign h0 _ hE6 hs6 (c := 45) (by decide) (cz := 0) (sz := 0) sR_t) (nn := (60, 0)) hc6 rfl rfl (Nat.le_of_ble_eq_true rfl) ⟨(by (try dsimp only); omega), (by (try dsimp only); omega)⟩ ⟨by cases t <;> (dsimp only [fRoom]; simp only [if_true, Bool.false_eq_true, if_false] at hl8 ⊢; omega), by cases t <;> (dsimp only [fRoom]; simp only [if_true, Bool.false_eq_true, if_false] at hl8 ⊢; omega)⟩ (fun v gt7 hp => ?_)
    obtain ⟨rfl, hx7, hs7⟩ := hp
    have hE7 := hE6.px hx7
    have hz7 := hz6.pf (PF.px (N := 0) hx7)
    have hF7 := hF6.px hx7
    obtain ⟨fs7, hc7⟩ := hs7.cell
    refine x_if_eq hC dX5_sum_2_55 (q := 58) rfl (tgt := 80) rfl (fun h55 => ?_) (fun h55 => ?_)
    · have hno : isQ tkc = false := by unfold isQ; rw [ha, show hdS tkc 45 = false from by
          cases hb : hdS tkc 45 with
          | false => rfl
          | true => rw [hb] at h55; exact absurd h55 (by decide)]; rfl
      have w1b := w1
      unfold pMore at w1b
      rw [if_neg (by rw [hno]; decide)] at w1b
      have ht : t = false := by
        cases t with
        | false => rfl
        | true => rw [w12 rfl] at hno; cases hno
      subst ht
      cases w1b
      refine x_aloadr_n hC dX5_sum_2_80 (q := 81) rfl rfl ?_
      exact x_aret hC hr (Or.inl ⟨_, rfl⟩) (Or.inr ⟨_, rfl⟩) dX5_sum_2_81 (by dsimp only [fRoom]; simp only [Bool.false_eq_true, if_false] at hl8 ⊢; omega) (by dsimp only [fRoom]; simp only [Bool.false_eq_true, if_false] at hl8 ⊢; omega) ⟨a_25, N2, rfl, by omega, w2.trans (PF.px (hx6.trans hx7)) (by omega), hF7, hs7, (w5.ext (fun j e1 e2 => (hx6.trans hx7) _ (n_fst rfl) (n_fst rfl) (n_fst rfl))).aR (fun j hj => by
            obtain ⟨lo, hi, v1, v2, v3, v4⟩ := w6 j hj
            exact ⟨lo, hi, v1, v2, aR_into v4 (Nat.le_refl _) (Nat.le_refl _) (Nat.le_refl _) (fun i e1 e2 => (hx6.trans hx7) _ (n_fst rfl) (n_fst rfl) (n_fst rfl))⟩) (by omega) (by omega) rfl w8 (by omega) (fun j hj => w10.1 j (by rw [w5.len]; exact hj)) w10.2⟩
    have hys : isQ tkc = true := by unfold isQ; rw [ha, show hdS tkc 45 = true from by
        cases hb : hdS tkc 45 with
        | true => rfl
        | false => rw [hb] at h55; exact absurd rfl h55]; rfl
    have w1b := w1
    unfold pMore at w1b
    rw [if_pos hys] at w1b
    obtain ⟨r2, q3, w1c⟩ := bind_is w1b
    obtain ⟨sg1, htk1, hsg8, hsgn⟩ := isQ_is hys
    have l3 := hLP _ _ q3
    have l7 := pMore_len2 hLP _ _ _ _ _ _ w1c
    have hsg0 : sgn tkc = sg1 := by rw [htk1]; rfl
    rw [hsg0] at w1c
    have l4 : tkc.length = tkc.tail.length + 1 := by
      have := congrArg List.length htk1
      exact this
    obtain ⟨gz8, hgz8⟩ : ∃ gz8, gz8 = gt7 := ⟨_, rfl⟩
    subst hgz8
    have hs8 := hs7
    have hE8 := hE7
    have hz8 := hz7
    have hF8 := hF7
    have hx8 := hx6.trans hx7
    obtain ⟨at0, bd, pl, nb, sg, wd, hcS, hat, hb1, hb2, hpl, htk⟩ := hs8.wh
    obtain ⟨q5, -⟩ | ⟨t5, ts5, q5, h1, h2, h3⟩ := htk
    · rw [q5] at htk1; cases htk1
    rw [q5] at htk1
    injection htk1 with htk2 _
    rw [htk2] at h3
    have hsg1 : sg1 = sg := by
      have := (h3.2.2 rfl).1
      injection this
    rw [← hsg1] at hcS
    refine x_aloadr_n hC dX5_sum_2_58 (q := 59) rfl rfl ?_
    refine x_get hC xf_X5_53_4 dX5_sum_2_59 (q := 62) rfl (n := (60, 0)) hcS rfl ?_
    refine x_istore_n hC dX5_sum_2_62 (q := 63) rfl rfl ?_
    refine x_aloadr_n hC dX5_sum_2_63 (q := 64) rfl rfl ?_
    refine x_iconst hC dX5_sum_2_64 (q := 65) rfl (v := (0)) (by decide) ?_
    refine x_put hC (n := (60, 0)) xf_X5_29_4 xd_4 rfl dX5_sum_2_65 (q := 68) rfl hcS rfl rfl rfl ?_
    have hs9 := PSt.nx (g := gz8) (sc := sc) (Z := Z) (tx := tx) (fr := fr) (to := to) (op := op) (t := t5) (nb := nb) (wh := hdk tkc) (sg := sg1) (wd := wd) (op2 := 0) (fr2 := 0) (to2 := 0) hat hb1 hb2 hpl h2
    have htl : tkc.tail = ts5 := by rw [q5]; rfl
    have l9 : tkc.tail.length = ts5.length := by rw [htl]
    obtain ⟨fs9, hc9⟩ := hs9.cell
    refine x_aloadr_n hC dX5_sum_2_68 (q := 69) rfl rfl ?_
    refine x_iload_n hC dX5_sum_2_69 (q := 70) rfl rfl ?_
    refine x_aloadr_n hC dX5_sum_2_70 (q := 71) rfl rfl ?_
    refine x_callV hC xv_X5_189 dX5_sum_2_71 (q := 74) rfl rfl (hP _ sc Z tx A V B d0 op N2 _ ts5 r2 (hE8.pf (PF.r0.u60 (N := 0) _)) hS (hz8.pf (PF.r0.u60 (N := 0) _)) hs9 (hF8.u60 _) hop (by rw [← htl]; exact q3)) (nn := (60, 0)) hc9 rfl rfl (Nat.le_of_ble_eq_true rfl) ⟨(by (try dsimp only); omega), (by (try dsimp only); omega)⟩ ⟨by cases t <;> (dsimp only [fRoom]; simp only [if_true, Bool.false_eq_true, if_false] at hl8 ⊢; omega), by cases t <;> (dsimp only [fRoom]; simp only [if_true, Bool.false_eq_true, if_false] at hl8 ⊢; omega)⟩ (fun v g1 hp => ?_)
    obtain ⟨a2, N3, rfl, hN3, hpf3, hF3, hs10, hR3⟩ := hp
    have hpf4 := ((PF.px hx8).u60 _).trans hpf3 (Nat.le_refl N2)
    have hpf5 := w2.trans hpf4 (by omega)
    have hCK3 := w5.ext (fun j e1 e2 => hpf4.at (by omega))
    obtain ⟨k3, x3, hk3, hk4, he3, hx3⟩ := aR_cell hR3
    obtain ⟨la3, sb3, hn9⟩ : ∃ la sb, _ = some (a_25, xO 15 [.ref la, .ref sb]) := ⟨_, _, hCK3.choose_spec.choose_spec.choose_spec.choose_spec.choose_spec.choose_spec.choose_spec.choose_spec.choose_spec.1⟩
    refine x_callV hC xv_X5_195 dX5_sum_2_74 (q := 77) rfl rfl (m_X18_comes_A h0 _ (i := N1) (k := k3) (c := sg1) (Or.inr (by omega)) hCK3 (by omega) he3 hx3 hF3.2 hsg8) (nn := (200, N1)) hn9 rfl rfl (Nat.le_of_ble_eq_true rfl) ⟨(by (try dsimp only); omega), (by (try dsimp only); omega)⟩ ⟨by cases t <;> (dsimp only [fRoom]; simp only [if_true, Bool.false_eq_true, if_false] at hl8 ⊢; omega), by cases t <;> (dsimp only [fRoom]; simp only [if_true, Bool.false_eq_true, if_false] at hl8 ⊢; omega)⟩ (fun v g1 hp => ?_)
    obtain ⟨rfl, hcf3, hCK4⟩ := hp
    refine x_goto hC dX5_sum_2_77 (tgt := 40) rfl ?_
    refine x_widen (k0 := 20 * (tk.length - r2.2.2.length - 1) + 4) (n0 := 5000 * (tk.length - r2.2.2.length - 1) + 100) (by
      rw [htl] at l3
      have l5 := w11
      have l6 : tkc.length = ts5.length + 1 := by rw [l4, htl]
      cases t <;> (dsimp only [fRoom]; simp only [if_true, Bool.false_eq_true, if_false] at hl8 ⊢; omega)) (by
      rw [htl] at l3
      have l5 := w11
      have l6 : tkc.length = ts5.length + 1 := by rw [l4, htl]
      cases t <;> (dsimp only [fRoom]; simp only [if_true, Bool.false_eq_true, if_false] at hl8 ⊢; omega)) ?_
    exact ih (_, fs ++ [r2.1], sgs ++ [sg1], fun j => if j = fs.length then a2 else ad j, N3, r2.2.2, false, true, max dd r2.2.1, n, some (.int (nI sg1))) ⟨w1c, hpf5.trans (hcf3.pf (Nat.le_refl _)) (by omega), hcf3.fr hF3 (by (try dsimp only); omega), hcf3.st hs10, by rw [List.length_append]; exact hCK4, fun j hj => by
      dsimp only at hj ⊢
      rw [List.length_append] at hj
      by_cases e : j = fs.length
      · subst e
        refine ⟨N2, N3, by omega, Nat.le_refl _, Or.inr (by omega), ?_⟩
        rw [if_pos rfl, gD_appr (Nat.le_refl _), Nat.sub_self]
        exact aR_into hR3 (Nat.le_refl _) (Nat.le_refl _) (by omega) (fun i e1 e2 => hcf3.at (by omega))
      · have hj2 : j < fs.length := by simp at hj; omega
        obtain ⟨lo, hi, v1, v2, v3, v4⟩ := w6 j hj2
        refine ⟨lo, hi, v1, by omega, v3, ?_⟩
        rw [if_neg e, gD_app hj2]
        exact aR_into v4 (Nat.le_refl _) (Nat.le_refl _) (by omega) (fun i e1 e2 => (hcf3.at (by omega)).trans (hpf4.at (by omega))), by (try dsimp only); omega, by dsimp only; rw [List.length_append]; exact Nat.succ_pos _, by dsimp only; rw [List.length_append]; simp only [List.length_singleton]; omega, ⟨aS_1 w10.1 hsgn, sA_1 w10.2 hsg8⟩, by dsimp only; rw [htl] at l3; omega, fun q => by cases q⟩ (by (try dsimp only); omega)
  refine x_aloadr_n hC dX5_sum_2_14 (q := 15) rfl rfl ?_
  refine x_bipush hC dX5_sum_2_15 (q := 17) rfl (v := (45)) (by decide) ?_
  refine x_callV hC xv_X5_93 dX5_sum_2_17 (q := 20) rfl rfl (m_X5_isSign h0 _ hE2 hs2 (c := 45) (by decide) (cz := 0) (sz := 0) sR_t) (nn := (60, 0)) hc2 rfl rfl (Nat.le_of_ble_eq_true rfl) ⟨(by (try dsimp only); omega), (by (try dsimp only); omega)⟩ ⟨(by (try dsimp only); omega), (by (try dsimp only); omega)⟩ (fun v gt3 hp => ?_)
  obtain ⟨rfl, hx3, hs3⟩ := hp
  have hE3 := hE2.px hx3
  have hz3 := hz2.pf (PF.px (N := 0) hx3)
  have hF3 := hF2.px hx3
  obtain ⟨fs3, hc3⟩ := hs3.cell
  refine x_if_ne hC dX5_sum_2_20 (q := 23) rfl (tgt := 25) rfl (fun h20 => ?_) (fun h20 => ?_)
  · have hpx := hpf1.trans ((PF.px hx2).trans (PF.px hx3) (Nat.le_refl _)) hN1
    have hEz := hE3
    have hzz := hz3
    have hFz := hF3
    have hsz := hs3
    have hRz : aR (fW N N1 gt3) r1.2.1 false a1 r1.1 := aR_into hR1 (Nat.le_refl _) (Nat.le_refl _) (Nat.le_refl _) (fun i e1 e2 => by rw [hx3 _ (n_fst rfl) (n_fst rfl) (n_fst rfl), hx2 _ (n_fst rfl) (n_fst rfl) (n_fst rfl)])
    refine x_new hC (fs := [.null, .null]) (200, N1) xc_15 q992 q993 q112 dX5_sum_2_25 (q := 28) rfl rfl (hFz.1 N1 (Nat.le_refl _)) (fun j hj => by match j, hj with | 0, _ => rfl | 1, _ => rfl | j + 2, h => exact absurd h (by omega)) (by (try dsimp only); omega) (by (try dsimp only); omega) (fun a_25 => ?_)
    refine x_dup hC dX5_sum_2_28 (q := 29) rfl rfl ?_
    refine x_callIN hC xv_X5_194 dX5_sum_2_29 (q := 32) rfl rfl (m_X18_init h0 _ (n := (200, N1)) (nl := (200, N1 + 1)) (ns := (200, N1 + 3)) (nv := (200, N1 + 4)) rfl rfl rfl rfl (by rw [xu_ne (n_snd (by omega))]; exact hFz.1 _ (by omega)) (by rw [xu_ne (n_snd (by omega))]; exact hFz.1 _ (by omega)) (by rw [xu_ne (n_snd (by omega))]; exact hFz.1 _ (by omega)) (n_snd (by omega)) (n_snd (by omega)) (n_snd (by omega)) (hzz.up rfl _) (xu_eq _ _ _)) rfl (Nat.le_of_ble_eq_true rfl) ⟨(by (try dsimp only); omega), (by (try dsimp only); omega)⟩ ⟨(by (try dsimp only); omega), (by (try dsimp only); omega)⟩ (fun v g1 hp => ?_)
    obtain ⟨la, sb, v1, rfl, hg1⟩ := hp
    replace hg1 := hg1.symm
    subst hg1
    have hci := ch_init (a := a_25) (la := la) (d0 := d0) (sb := sb) (v1 := v1) (x0 := some (a_25, xO 15 [.null, .null])) hFz
    obtain ⟨hpi, hFi, hCi⟩ := hci
    obtain ⟨k1, x1, hk1, hk2, he1, hx9⟩ := aR_cell hRz
    refine x_astorer_n hC dX5_sum_2_32 (q := 33) rfl rfl ?_
    refine x_aloadr_n hC dX5_sum_2_33 (q := 34) rfl rfl ?_
    refine x_bipush hC dX5_sum_2_34 (q := 36) rfl (v := (43)) (by decide) ?_
    refine x_aloadr_n hC dX5_sum_2_36 (q := 37) rfl rfl ?_
    refine x_callV hC xv_X5_195 dX5_sum_2_37 (q := 40) rfl rfl (m_X18_comes_B h0 _ (i := N1) (k := k1) (c := 43) (Or.inl hk2) hCi (hzz.pf hpi) ((hpi.at (by omega)).trans he1) hx9 hFi.2 (by decide)) (nn := (200, N1)) (xu_eq _ _ _) rfl rfl (Nat.le_of_ble_eq_true rfl) ⟨(by (try dsimp only); omega), (by (try dsimp only); omega)⟩ ⟨(by (try dsimp only); omega), (by (try dsimp only); omega)⟩ (fun v g1 hp => ?_)
    obtain ⟨rfl, hcf, hCK⟩ := hp
    have hpx2 := (hpx.trans hpi hN1).trans (hcf.pf (Nat.le_refl _)) hN1
    have hE5 := hE.pf hpx2
    have hz5 := hz.pf hpx2
    have hF5 := hcf.fr hFi (Nat.le_refl _)
    have hs5 := hcf.st (((((hsz.u _).u _).u _).u _).u _)
    refine x_widen (k0 := 20 * (tk.length - r1.2.2.length - 1) + 12) (n0 := 5000 * (tk.length - r1.2.2.length - 1) + 4300) (by (try dsimp only); omega) (by (try dsimp only); omega) ?_
    refine x_loop (S := (fun x : cA1 => ((20 * (tk.length - x.2.2.2.2.2.1.length - 1) + (if x.2.2.2.2.2.2.1 then 12 else 4)), (5000 * (tk.length - x.2.2.2.2.2.1.length - 1) + (if x.2.2.2.2.2.2.1 then 4300 else 100)), x.1, ([some (.ref sc), some (.ref a1), some (.ref a_25), x.2.2.2.2.2.2.2.2.2.2] : xL), ([] : List Value)))) (Inv := CI isQ P g sc Z tx fr to op N N1 a_25 tk.length r0) (μ := fun x => x.2.2.2.2.2.2.2.2.2.1) ?_ (_, [r1.1], [43], fun _ => a1, N1 + 5, r1.2.2, true, true, r1.2.1, 9, none) ⟨q2, hpx2, hF5, hs5, hCK, fun j hj => ⟨N, N1, Nat.le_refl _, by (try dsimp only); omega, Or.inl (Nat.le_refl _), ?_⟩, Nat.le_refl _, (by decide : 0 < 1), (by decide : 1 + 9 ≤ 10), ⟨fun j hj => ?_, fun j => ?_⟩, l1, fun _ => hn⟩
    rotate_left
    · have hj0 : j = 0 := Nat.lt_one_iff.mp hj
      subst hj0
      exact aR_into hRz (Nat.le_refl _) (Nat.le_refl _) (Nat.le_refl _) (fun i e1 e2 => (hcf.at (by omega)).trans (hpi.at (by omega)))
    · have hj0 : j = 0 := Nat.lt_one_iff.mp hj
      subst hj0
      exact (by unfold aSign; decide : aSign (nI 43))
    · cases j with
      | zero => exact (by decide : 43 < 128)
      | succ j => exact (by decide : (0 : Nat) < 128)
    intro x hi ih
    obtain ⟨G, fs, sgs, ad, N2, tkc, t, sn2, dd, n, lx⟩ := x
    obtain ⟨w1, w2, w3, w4, w5, w6, w7, w8, w9, w10, w11, w12⟩ := hi
    dsimp only at w1 w2 w3 w4 w5 w6 w7 w8 w9 w10 w11 w12 ih ⊢
    obtain ⟨n, rfl⟩ : ∃ n', n = n' + 1 := by
      cases n with
      | zero => cases w1
      | succ n => exact ⟨n, rfl⟩
    have hl8 : r0.2.2.length + (if t then 2 else 0) ≤ tkc.length := by
      cases t with
      | false => exact pMore_len2 hLP _ _ _ _ _ _ w1
      | true => exact pMore_len3 hLP (w12 rfl) w1
    have hE5 := hE.pf w2
    have hz5 := hz.pf w2
    have hF5 := w3
    have hs5 := w4
    obtain ⟨fs5, hc5⟩ := hs5.cell
    refine x_aloadr_n hC dX5_sum_2_40 (q := 41) rfl rfl ?_
    refine x_bipush hC dX5_sum_2_41 (q := 43) rfl (v := (43)) (by decide) ?_
    refine x_callV hC xv_X5_93 dX5_sum_2_43 (q := 46) rfl rfl (m_X5_isSign h0 _ hE5 hs5 (c := 43) (by decide) (cz := 2) (sz := 20) (sR_f (by decide) (by decide) _)) (nn := (60, 0)) hc5 rfl rfl (Nat.le_of_ble_eq_true rfl) ⟨(by (try dsimp only); omega), (by (try dsimp only); omega)⟩ ⟨by cases t <;> (dsimp only [fRoom]; simp only [if_true, Bool.false_eq_true, if_false] at hl8 ⊢; omega), by cases t <;> (dsimp only [fRoom]; simp only [if_true, Bool.false_eq_true, if_false] at hl8 ⊢; omega)⟩ (fun v gt6 hp => ?_)
    obtain ⟨rfl, hx6, hs6⟩ := hp
    have hE6 := hE5.px hx6
    have hz6 := hz5.pf (PF.px (N := 0) hx6)
    have hF6 := hF5.px hx6
    obtain ⟨fs6, hc6⟩ := hs6.cell
    refine x_if_ne hC dX5_sum_2_46 (q := 49) rfl (tgt := 58) rfl (fun h46 => ?_) (fun h46 => ?_)
    · have hys : isQ tkc = true := by unfold isQ; rw [show hdS tkc 43 = true from by
          cases hb : hdS tkc 43 with
          | true => rfl
          | false => rw [hb] at h46; exact absurd (show b01 false = 0 from rfl) h46]; rfl
      have w1b := w1
      unfold pMore at w1b
      rw [if_pos hys] at w1b
      obtain ⟨r2, q3, w1c⟩ := bind_is w1b
      obtain ⟨sg1, htk1, hsg8, hsgn⟩ := isQ_is hys
      have l3 := hLP _ _ q3
      have l7 := pMore_len2 hLP _ _ _ _ _ _ w1c
      have hsg0 : sgn tkc = sg1 := by rw [htk1]; rfl
      rw [hsg0] at w1c
      have l4 : tkc.length = tkc.tail.length + 1 := by
        have := congrArg List.length htk1
        exact this
      obtain ⟨gz8, hgz8⟩ : ∃ gz8, gz8 = gt6 := ⟨_, rfl⟩
      subst hgz8
      have hs8 := hs6
      have hE8 := hE6
      have hz8 := hz6
      have hF8 := hF6
      have hx8 := hx6
      obtain ⟨at0, bd, pl, nb, sg, wd, hcS, hat, hb1, hb2, hpl, htk⟩ := hs8.wh
      obtain ⟨q5, -⟩ | ⟨t5, ts5, q5, h1, h2, h3⟩ := htk
      · rw [q5] at htk1; cases htk1
      rw [q5] at htk1
      injection htk1 with htk2 _
      rw [htk2] at h3
      have hsg1 : sg1 = sg := by
        have := (h3.2.2 rfl).1
        injection this
      rw [← hsg1] at hcS
      refine x_aloadr_n hC dX5_sum_2_58 (q := 59) rfl rfl ?_
      refine x_get hC xf_X5_53_4 dX5_sum_2_59 (q := 62) rfl (n := (60, 0)) hcS rfl ?_
      refine x_istore_n hC dX5_sum_2_62 (q := 63) rfl rfl ?_
      refine x_aloadr_n hC dX5_sum_2_63 (q := 64) rfl rfl ?_
      refine x_iconst hC dX5_sum_2_64 (q := 65) rfl (v := (0)) (by decide) ?_
      refine x_put hC (n := (60, 0)) xf_X5_29_4 xd_4 rfl dX5_sum_2_65 (q := 68) rfl hcS rfl rfl rfl ?_
      have hs9 := PSt.nx (g := gz8) (sc := sc) (Z := Z) (tx := tx) (fr := fr) (to := to) (op := op) (t := t5) (nb := nb) (wh := hdk tkc) (sg := sg1) (wd := wd) (op2 := 0) (fr2 := 0) (to2 := 0) hat hb1 hb2 hpl h2
      have htl : tkc.tail = ts5 := by rw [q5]; rfl
      have l9 : tkc.tail.length = ts5.length := by rw [htl]
      obtain ⟨fs9, hc9⟩ := hs9.cell
      refine x_aloadr_n hC dX5_sum_2_68 (q := 69) rfl rfl ?_
      refine x_iload_n hC dX5_sum_2_69 (q := 70) rfl rfl ?_
      refine x_aloadr_n hC dX5_sum_2_70 (q := 71) rfl rfl ?_
      refine x_callV hC xv_X5_189 dX5_sum_2_71 (q := 74) rfl rfl (hP _ sc Z tx A V B d0 op N2 _ ts5 r2 (hE8.pf (PF.r0.u60 (N := 0) _)) hS (hz8.pf (PF.r0.u60 (N := 0) _)) hs9 (hF8.u60 _) hop (by rw [← htl]; exact q3)) (nn := (60, 0)) hc9 rfl rfl (Nat.le_of_ble_eq_true rfl) ⟨(by (try dsimp only); omega), (by (try dsimp only); omega)⟩ ⟨by cases t <;> (dsimp only [fRoom]; simp only [if_true, Bool.false_eq_true, if_false] at hl8 ⊢; omega), by cases t <;> (dsimp only [fRoom]; simp only [if_true, Bool.false_eq_true, if_false] at hl8 ⊢; omega)⟩ (fun v g1 hp => ?_)
      obtain ⟨a2, N3, rfl, hN3, hpf3, hF3, hs10, hR3⟩ := hp
      have hpf4 := ((PF.px hx8).u60 _).trans hpf3 (Nat.le_refl N2)
      have hpf5 := w2.trans hpf4 (by omega)
      have hCK3 := w5.ext (fun j e1 e2 => hpf4.at (by omega))
      obtain ⟨k3, x3, hk3, hk4, he3, hx3⟩ := aR_cell hR3
      obtain ⟨la3, sb3, hn9⟩ : ∃ la sb, _ = some (a_25, xO 15 [.ref la, .ref sb]) := ⟨_, _, hCK3.choose_spec.choose_spec.choose_spec.choose_spec.choose_spec.choose_spec.choose_spec.choose_spec.choose_spec.1⟩
      refine x_callV hC xv_X5_195 dX5_sum_2_74 (q := 77) rfl rfl (m_X18_comes_A h0 _ (i := N1) (k := k3) (c := sg1) (Or.inr (by omega)) hCK3 (by omega) he3 hx3 hF3.2 hsg8) (nn := (200, N1)) hn9 rfl rfl (Nat.le_of_ble_eq_true rfl) ⟨(by (try dsimp only); omega), (by (try dsimp only); omega)⟩ ⟨by cases t <;> (dsimp only [fRoom]; simp only [if_true, Bool.false_eq_true, if_false] at hl8 ⊢; omega), by cases t <;> (dsimp only [fRoom]; simp only [if_true, Bool.false_eq_true, if_false] at hl8 ⊢; omega)⟩ (fun v g1 hp => ?_)
      obtain ⟨rfl, hcf3, hCK4⟩ := hp
      refine x_goto hC dX5_sum_2_77 (tgt := 40) rfl ?_
      refine x_widen (k0 := 20 * (tk.length - r2.2.2.length - 1) + 4) (n0 := 5000 * (tk.length - r2.2.2.length - 1) + 100) (by
        rw [htl] at l3
        have l5 := w11
        have l6 : tkc.length = ts5.length + 1 := by rw [l4, htl]
        cases t <;> (dsimp only [fRoom]; simp only [if_true, Bool.false_eq_true, if_false] at hl8 ⊢; omega)) (by
        rw [htl] at l3
        have l5 := w11
        have l6 : tkc.length = ts5.length + 1 := by rw [l4, htl]
        cases t <;> (dsimp only [fRoom]; simp only [if_true, Bool.false_eq_true, if_false] at hl8 ⊢; omega)) ?_
      exact ih (_, fs ++ [r2.1], sgs ++ [sg1], fun j => if j = fs.length then a2 else ad j, N3, r2.2.2, false, true, max dd r2.2.1, n, some (.int (nI sg1))) ⟨w1c, hpf5.trans (hcf3.pf (Nat.le_refl _)) (by omega), hcf3.fr hF3 (by (try dsimp only); omega), hcf3.st hs10, by rw [List.length_append]; exact hCK4, fun j hj => by
        dsimp only at hj ⊢
        rw [List.length_append] at hj
        by_cases e : j = fs.length
        · subst e
          refine ⟨N2, N3, by omega, Nat.le_refl _, Or.inr (by omega), ?_⟩
          rw [if_pos rfl, gD_appr (Nat.le_refl _), Nat.sub_self]
          exact aR_into hR3 (Nat.le_refl _) (Nat.le_refl _) (by omega) (fun i e1 e2 => hcf3.at (by omega))
        · have hj2 : j < fs.length := by simp at hj; omega
          obtain ⟨lo, hi, v1, v2, v3, v4⟩ := w6 j hj2
          refine ⟨lo, hi, v1, by omega, v3, ?_⟩
          rw [if_neg e, gD_app hj2]
          exact aR_into v4 (Nat.le_refl _) (Nat.le_refl _) (by omega) (fun i e1 e2 => (hcf3.at (by omega)).trans (hpf4.at (by omega))), by (try dsimp only); omega, by dsimp only; rw [List.length_append]; exact Nat.succ_pos _, by dsimp only; rw [List.length_append]; simp only [List.length_singleton]; omega, ⟨aS_1 w10.1 hsgn, sA_1 w10.2 hsg8⟩, by dsimp only; rw [htl] at l3; omega, fun q => by cases q⟩ (by (try dsimp only); omega)
    have ha : hdS tkc 43 = false := by
      cases hb : hdS tkc 43 with
      | false => rfl
      | true => rw [hb] at h46; exact absurd (show b01 true = 0 from h46) (by decide)
    refine x_aloadr_n hC dX5_sum_2_49 (q := 50) rfl rfl ?_
    refine x_bipush hC dX5_sum_2_50 (q := 52) rfl (v := (45)) (by decide) ?_
    refine x_callV hC xv_X5_93 dX5_sum_2_52 (q := 55) rfl rfl (m_X5_isSign h0 _ hE6 hs6 (c := 45) (by decide) (cz := 0) (sz := 0) sR_t) (nn := (60, 0)) hc6 rfl rfl (Nat.le_of_ble_eq_true rfl) ⟨(by (try dsimp only); omega), (by (try dsimp only); omega)⟩ ⟨by cases t <;> (dsimp only [fRoom]; simp only [if_true, Bool.false_eq_true, if_false] at hl8 ⊢; omega), by cases t <;> (dsimp only [fRoom]; simp only [if_true, Bool.false_eq_true, if_false] at hl8 ⊢; omega)⟩ (fun v gt7 hp => ?_)
    obtain ⟨rfl, hx7, hs7⟩ := hp
    have hE7 := hE6.px hx7
    have hz7 := hz6.pf (PF.px (N := 0) hx7)
    have hF7 := hF6.px hx7
    obtain ⟨fs7, hc7⟩ := hs7.cell
    refine x_if_eq hC dX5_sum_2_55 (q := 58) rfl (tgt := 80) rfl (fun h55 => ?_) (fun h55 => ?_)
    · have hno : isQ tkc = false := by unfold isQ; rw [ha, show hdS tkc 45 = false from by
          cases hb : hdS tkc 45 with
          | false => rfl
          | true => rw [hb] at h55; exact absurd h55 (by decide)]; rfl
      have w1b := w1
      unfold pMore at w1b
      rw [if_neg (by rw [hno]; decide)] at w1b
      have ht : t = false := by
        cases t with
        | false => rfl
        | true => rw [w12 rfl] at hno; cases hno
      subst ht
      cases w1b
      refine x_aloadr_n hC dX5_sum_2_80 (q := 81) rfl rfl ?_
      exact x_aret hC hr (Or.inl ⟨_, rfl⟩) (Or.inr ⟨_, rfl⟩) dX5_sum_2_81 (by dsimp only [fRoom]; simp only [Bool.false_eq_true, if_false] at hl8 ⊢; omega) (by dsimp only [fRoom]; simp only [Bool.false_eq_true, if_false] at hl8 ⊢; omega) ⟨a_25, N2, rfl, by omega, w2.trans (PF.px (hx6.trans hx7)) (by omega), hF7, hs7, (w5.ext (fun j e1 e2 => (hx6.trans hx7) _ (n_fst rfl) (n_fst rfl) (n_fst rfl))).aR (fun j hj => by
            obtain ⟨lo, hi, v1, v2, v3, v4⟩ := w6 j hj
            exact ⟨lo, hi, v1, v2, aR_into v4 (Nat.le_refl _) (Nat.le_refl _) (Nat.le_refl _) (fun i e1 e2 => (hx6.trans hx7) _ (n_fst rfl) (n_fst rfl) (n_fst rfl))⟩) (by omega) (by omega) rfl w8 (by omega) (fun j hj => w10.1 j (by rw [w5.len]; exact hj)) w10.2⟩
    have hys : isQ tkc = true := by unfold isQ; rw [ha, show hdS tkc 45 = true from by
        cases hb : hdS tkc 45 with
        | true => rfl
        | false => rw [hb] at h55; exact absurd rfl h55]; rfl
    have w1b := w1
    unfold pMore at w1b
    rw [if_pos hys] at w1b
    obtain ⟨r2, q3, w1c⟩ := bind_is w1b
    obtain ⟨sg1, htk1, hsg8, hsgn⟩ := isQ_is hys
    have l3 := hLP _ _ q3
    have l7 := pMore_len2 hLP _ _ _ _ _ _ w1c
    have hsg0 : sgn tkc = sg1 := by rw [htk1]; rfl
    rw [hsg0] at w1c
    have l4 : tkc.length = tkc.tail.length + 1 := by
      have := congrArg List.length htk1
      exact this
    obtain ⟨gz8, hgz8⟩ : ∃ gz8, gz8 = gt7 := ⟨_, rfl⟩
    subst hgz8
    have hs8 := hs7
    have hE8 := hE7
    have hz8 := hz7
    have hF8 := hF7
    have hx8 := hx6.trans hx7
    obtain ⟨at0, bd, pl, nb, sg, wd, hcS, hat, hb1, hb2, hpl, htk⟩ := hs8.wh
    obtain ⟨q5, -⟩ | ⟨t5, ts5, q5, h1, h2, h3⟩ := htk
    · rw [q5] at htk1; cases htk1
    rw [q5] at htk1
    injection htk1 with htk2 _
    rw [htk2] at h3
    have hsg1 : sg1 = sg := by
      have := (h3.2.2 rfl).1
      injection this
    rw [← hsg1] at hcS
    refine x_aloadr_n hC dX5_sum_2_58 (q := 59) rfl rfl ?_
    refine x_get hC xf_X5_53_4 dX5_sum_2_59 (q := 62) rfl (n := (60, 0)) hcS rfl ?_
    refine x_istore_n hC dX5_sum_2_62 (q := 63) rfl rfl ?_
    refine x_aloadr_n hC dX5_sum_2_63 (q := 64) rfl rfl ?_
    refine x_iconst hC dX5_sum_2_64 (q := 65) rfl (v := (0)) (by decide) ?_
    refine x_put hC (n := (60, 0)) xf_X5_29_4 xd_4 rfl dX5_sum_2_65 (q := 68) rfl hcS rfl rfl rfl ?_
    have hs9 := PSt.nx (g := gz8) (sc := sc) (Z := Z) (tx := tx) (fr := fr) (to := to) (op := op) (t := t5) (nb := nb) (wh := hdk tkc) (sg := sg1) (wd := wd) (op2 := 0) (fr2 := 0) (to2 := 0) hat hb1 hb2 hpl h2
    have htl : tkc.tail = ts5 := by rw [q5]; rfl
    have l9 : tkc.tail.length = ts5.length := by rw [htl]
    obtain ⟨fs9, hc9⟩ := hs9.cell
    refine x_aloadr_n hC dX5_sum_2_68 (q := 69) rfl rfl ?_
    refine x_iload_n hC dX5_sum_2_69 (q := 70) rfl rfl ?_
    refine x_aloadr_n hC dX5_sum_2_70 (q := 71) rfl rfl ?_
    refine x_callV hC xv_X5_189 dX5_sum_2_71 (q := 74) rfl rfl (hP _ sc Z tx A V B d0 op N2 _ ts5 r2 (hE8.pf (PF.r0.u60 (N := 0) _)) hS (hz8.pf (PF.r0.u60 (N := 0) _)) hs9 (hF8.u60 _) hop (by rw [← htl]; exact q3)) (nn := (60, 0)) hc9 rfl rfl (Nat.le_of_ble_eq_true rfl) ⟨(by (try dsimp only); omega), (by (try dsimp only); omega)⟩ ⟨by cases t <;> (dsimp only [fRoom]; simp only [if_true, Bool.false_eq_true, if_false] at hl8 ⊢; omega), by cases t <;> (dsimp only [fRoom]; simp only [if_true, Bool.false_eq_true, if_false] at hl8 ⊢; omega)⟩ (fun v g1 hp => ?_)
    obtain ⟨a2, N3, rfl, hN3, hpf3, hF3, hs10, hR3⟩ := hp
    have hpf4 := ((PF.px hx8).u60 _).trans hpf3 (Nat.le_refl N2)
    have hpf5 := w2.trans hpf4 (by omega)
    have hCK3 := w5.ext (fun j e1 e2 => hpf4.at (by omega))
    obtain ⟨k3, x3, hk3, hk4, he3, hx3⟩ := aR_cell hR3
    obtain ⟨la3, sb3, hn9⟩ : ∃ la sb, _ = some (a_25, xO 15 [.ref la, .ref sb]) := ⟨_, _, hCK3.choose_spec.choose_spec.choose_spec.choose_spec.choose_spec.choose_spec.choose_spec.choose_spec.choose_spec.1⟩
    refine x_callV hC xv_X5_195 dX5_sum_2_74 (q := 77) rfl rfl (m_X18_comes_A h0 _ (i := N1) (k := k3) (c := sg1) (Or.inr (by omega)) hCK3 (by omega) he3 hx3 hF3.2 hsg8) (nn := (200, N1)) hn9 rfl rfl (Nat.le_of_ble_eq_true rfl) ⟨(by (try dsimp only); omega), (by (try dsimp only); omega)⟩ ⟨by cases t <;> (dsimp only [fRoom]; simp only [if_true, Bool.false_eq_true, if_false] at hl8 ⊢; omega), by cases t <;> (dsimp only [fRoom]; simp only [if_true, Bool.false_eq_true, if_false] at hl8 ⊢; omega)⟩ (fun v g1 hp => ?_)
    obtain ⟨rfl, hcf3, hCK4⟩ := hp
    refine x_goto hC dX5_sum_2_77 (tgt := 40) rfl ?_
    refine x_widen (k0 := 20 * (tk.length - r2.2.2.length - 1) + 4) (n0 := 5000 * (tk.length - r2.2.2.length - 1) + 100) (by
      rw [htl] at l3
      have l5 := w11
      have l6 : tkc.length = ts5.length + 1 := by rw [l4, htl]
      cases t <;> (dsimp only [fRoom]; simp only [if_true, Bool.false_eq_true, if_false] at hl8 ⊢; omega)) (by
      rw [htl] at l3
      have l5 := w11
      have l6 : tkc.length = ts5.length + 1 := by rw [l4, htl]
      cases t <;> (dsimp only [fRoom]; simp only [if_true, Bool.false_eq_true, if_false] at hl8 ⊢; omega)) ?_
    exact ih (_, fs ++ [r2.1], sgs ++ [sg1], fun j => if j = fs.length then a2 else ad j, N3, r2.2.2, false, true, max dd r2.2.1, n, some (.int (nI sg1))) ⟨w1c, hpf5.trans (hcf3.pf (Nat.le_refl _)) (by omega), hcf3.fr hF3 (by (try dsimp only); omega), hcf3.st hs10, by rw [List.length_append]; exact hCK4, fun j hj => by
      dsimp only at hj ⊢
      rw [List.length_append] at hj
      by_cases e : j = fs.length
      · subst e
        refine ⟨N2, N3, by omega, Nat.le_refl _, Or.inr (by omega), ?_⟩
        rw [if_pos rfl, gD_appr (Nat.le_refl _), Nat.sub_self]
        exact aR_into hR3 (Nat.le_refl _) (Nat.le_refl _) (by omega) (fun i e1 e2 => hcf3.at (by omega))
      · have hj2 : j < fs.length := by simp at hj; omega
        obtain ⟨lo, hi, v1, v2, v3, v4⟩ := w6 j hj2
        refine ⟨lo, hi, v1, by omega, v3, ?_⟩
        rw [if_neg e, gD_app hj2]
        exact aR_into v4 (Nat.le_refl _) (Nat.le_refl _) (by omega) (fun i e1 e2 => (hcf3.at (by omega)).trans (hpf4.at (by omega))), by (try dsimp only); omega, by dsimp only; rw [List.length_append]; exact Nat.succ_pos _, by dsimp only; rw [List.length_append]; simp only [List.length_singleton]; omega, ⟨aS_1 w10.1 hsgn, sA_1 w10.2 hsg8⟩, by dsimp only; rw [htl] at l3; omega, fun q => by cases q⟩ (by (try dsimp only); omega)
  · exact absurd (show isQ r1.2.2 = false by
          unfold isQ
          rw [show hdS r1.2.2 43 = false from by
              cases hb : hdS r1.2.2 43 with
              | false => rfl
              | true => rw [hb] at h11; exact absurd (show b01 true = 0 from h11) (by decide), show hdS r1.2.2 45 = false from by
              cases hb : hdS r1.2.2 45 with
              | false => rfl
              | true => rw [hb] at h20; exact absurd (show b01 true = 0 from h20) (by decide)]; rfl) (by rw [hn]; decide)

theorem c_X5_sum {l : Launch} {s0 : State} {D : va_G} (h0 : x0 l s0 D) {lv fr to F Lo kp : Nat} {P : pP} (hP : cP l s0 D yX5_product cX5_product 4 "KilnBench$Sum" false true F Lo kp lv fr to P) (hkp : kp ≤ 6) (hLP : pLen P) (hF9 : 12 ≤ F) (hLo : 500 ≤ Lo) : cP l s0 D yX5_sum_2 cX5_sum_2 4 "KilnBench$Sum" false true (F + 1) (Lo + 30) 6 lv fr to (pCh isQ P 43) := by
  intro g sc Z tx A V B d0 op N sn tk r hE hS hz hq hF hop hp
  obtain ⟨r1, q1, ⟨hn, rfl⟩ | ⟨hn, q2⟩⟩ := pCh_is hp
  · exact m_X5_sum_A h0 hP hkp hLP g hE hS hz hF hq hop q1 hF9 hLo hn
  · exact m_X5_sum_B h0 hP hkp hLP g hE hS hz hF hq hop q1 hF9 hLo hn q2 (pMore_len3 hLP hn q2)
