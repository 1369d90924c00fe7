/-! a chain under way: its cells are named (200, i) .. (200, i + 4) -/
def CF (i : Nat) (g g1 : xG) : Prop := ∀ n : xN, ¬ (n.1 = 200 ∧ i < n.2 ∧ n.2 < i + 5) → g1 n = g n
def CK0 (g : xG) (i a d0 : Nat) : Prop := ∃ la sb v, g (200, i) = some (a, xO 15 [.ref la, .ref sb]) ∧ g (200, i + 1) = some (la, xO 21 [.int 0, .ref d0, .int 0]) ∧ g (200, i + 2) = none ∧ g (200, i + 3) = some (sb, xO 22 [.ref v, .int 0, .int 0, .int 0]) ∧ g (200, i + 4) = some (v, xAi .byte 16 (fun _ => 0))
def CK (g : xG) (i a cnt : Nat) (ad : Nat → Nat) (sgs : List Nat) : Prop := ∃ (la sb dl v cap : Nat) (mc ml : Int32) (fa : Nat → Option Nat) (f : Nat → Int32), g (200, i) = some (a, xO 15 [.ref la, .ref sb]) ∧ g (200, i + 1) = some (la, xO 21 [.int mc, .ref dl, .int (nI cnt)]) ∧ g (200, i + 2) = some (dl, xAr (.object "java/lang/Object") 10 fa) ∧ (∀ j, j < cnt → fa j = some (ad j)) ∧ g (200, i + 3) = some (sb, xO 22 [.ref v, .int 0, .int ml, .int (nI sgs.length)]) ∧ g (200, i + 4) = some (v, xAi .byte cap f) ∧ sV f cap sgs ∧ sgs.length = cnt
theorem CF.trans {i : Nat} {g g1 g2 : xG} (h1 : CF i g g1) (h2 : CF i g1 g2) : CF i g g2 := fun n q => (h2 n q).trans (h1 n q)
theorem CF.o {i : Nat} {g g1 : xG} (h : CF i g g1) (a j : Nat) (ha : Nat.beq a 200 = false) : g1 (a, j) = g (a, j) := h _ (fun q => by rw [show a = 200 from q.1] at ha; cases ha)
theorem CF.at {i j : Nat} {g g1 : xG} (h : CF i g g1) (hj : j ≤ i ∨ i + 5 ≤ j) : g1 (200, j) = g (200, j) := h _ (fun q => by have := q.2; dsimp only at this; omega)
theorem CF.fW {i lo hi : Nat} {g g1 : xG} (h : CF i g g1) (hj : hi ≤ i + 1 ∨ i + 5 ≤ lo) : fW lo hi g1 = fW lo hi g := fW_ext fun j q1 q2 => h.at (by omega)
theorem CF.pf {i N : Nat} {g g1 : xG} (h : CF i g g1) (hi : N ≤ i) : PF N g g1 := fun n _ _ _ q => h n (fun r => q ⟨r.1, by omega⟩)
theorem CF.fr {i N : Nat} {g g1 : xG} (h : CF i g g1) (hf : FR N g) (hi : i + 5 ≤ N) : FR N g1 := ⟨fun j hj => (h.at (by omega)).trans (hf.1 j hj), (h.o 63 0 rfl).trans hf.2⟩
theorem CF.st {i : Nat} {g g1 : xG} {sc : Nat} {Z : Nat × Nat × Nat} {tx : List Nat} {fr to op : Nat} {sn : Bool} {tk : List Tk} (h : CF i g g1) (hq : PSt g sc Z tx fr to op sn tk) : PSt g1 sc Z tx fr to op sn tk := hq.pf (N := 0) (h.o 60 0 rfl) (h.o 61 0 rfl) (h.o 62 0 rfl)
theorem CF.u {i j : Nat} {g g1 : xG} (h : CF i g g1) (h1 : i < j) (h2 : j < i + 5) (x : Option (Nat × xE)) : CF i g (xu g1 (200, j) x) := fun n q => by
  rw [xu_ne (fun r => q (by rw [r]; exact ⟨rfl, h1, h2⟩))]
  exact h n q
theorem CF.r0 {i : Nat} {g : xG} : CF i g g := fun _ _ => Eq.refl _
theorem CK.ext {g g1 : xG} {i a cnt : Nat} {ad : Nat → Nat} {sgs : List Nat} (h : CK g i a cnt ad sgs) (he : ∀ j, i ≤ j → j < i + 5 → g1 (200, j) = g (200, j)) : CK g1 i a cnt ad sgs := by
  obtain ⟨la, sb, dl, v, cap, mc, ml, fa, f, h1, h2, h3, h4, h5, h6, h7⟩ := h
  exact ⟨la, sb, dl, v, cap, mc, ml, fa, f, (he _ (by omega) (by omega)).trans h1, (he _ (by omega) (by omega)).trans h2, (he _ (by omega) (by omega)).trans h3, h4, (he _ (by omega) (by omega)).trans h5, (he _ (by omega) (by omega)).trans h6, h7⟩
theorem sB_at {f : Nat → Int32} {w : List Nat} (h : sB f w) (hA : sA w) {j : Nat} (hj : j < w.length) : f j &&& 255 = nI (w.getD j 0) := by
  rw [h j hj]
  exact (sb_all _ (hA j)).2.2
/-- a chain that is done -/
theorem CK.aR {g : xG} {i a cnt : Nat} {ad : Nat → Nat} {sgs : List Nat} {fs : List (aEnv → Int64)} {N N2 d : Nat} (h : CK g i a cnt ad sgs) (hp : ∀ j, j < cnt → ∃ lo hi, N ≤ lo ∧ hi ≤ N2 ∧ aR (fW lo hi g) d false (ad j) (fs.getD j (fun _ => 0))) (h1 : N ≤ i) (h2 : i + 5 ≤ N2) (hl : fs.length = cnt) (h0 : 0 < cnt) (h10 : cnt ≤ 10) (hs : ∀ j, j < cnt → aSign (nI (sgs.getD j 0))) (hA : sA sgs) : aR (fW N N2 g) (d + 1) false a (pChain sgs fs) := by
  obtain ⟨la, sb, dl, v, cap, mc, ml, fa, f, e1, e2, e3, e4, e5, e6, e7, e8⟩ := h
  have hc : sgs.length ≤ cap := e7.2.1
  have hc2 : cap < 4096 := e7.2.2.1
  refine Or.inr (Or.inr (Or.inl ⟨(200, i), (200, i + 1), (200, i + 2), (200, i + 3), (200, i + 4), la, sb, dl, v, 10, cap, cnt, mc, ml, fa, f, ad, fun j => fs.getD j (fun _ => 0), ⟨n40, n40, n40, n40, n40⟩, (fW_at (by omega) (by omega)).trans e1, (fW_at (by omega) (by omega)).trans e2, (fW_at (by omega) (by omega)).trans e3, (fW_at (by omega) (by omega)).trans (by rw [e5, e8]), (fW_at (by omega) (by omega)).trans e6, ⟨h0, h10, by omega, by omega, by omega⟩, fun j hj => ⟨e4 j hj, ?_, ?_⟩, ?_⟩))
  · rw [sB_at e7.1 hA (by omega)]; exact hs j hj
  · obtain ⟨lo, hi, q1, q2, q3⟩ := hp j hj
    exact aR_fW q3 q1 q2
  · funext e
    unfold pChain
    rw [hl]
    exact aFold_ext _ fun j hj => ⟨(sB_at e7.1 hA (by omega)).symm, rfl⟩
theorem sV_0 : sV (fun _ => (0 : Int32)) 16 [] := ⟨fun j hj => absurd hj (Nat.not_lt_zero j), Nat.zero_le _, by decide, fun _ _ => rfl⟩

set_option maxHeartbeats 4000000 in
set_option maxRecDepth 100000 in
theorem m_X18_comes_B {l : Launch} {s0 : State} {D : va_G} (h0 : x0 l s0 D) (g : xG) {i k a d0 v : Nat} {x : xE} (hk : k < i ∨ i + 5 ≤ k) (hC0 : CK0 g i a d0) (hz : xE0 s0 g d0) (he : g (200, k) = some (v, x)) (hx : Cond.castable (xnm x) "java/lang/Object" ∈ lw_tbl) (h63 : g (63, 0) = none) {c : Nat} (hc : c < 128) : xMet l s0 D yX18_comes cX18_comes 3 none (xr 10 2 4110 360) [.ref a, .int (nI c), .ref v] g (fun r g1 => r = none ∧ CF i g g1 ∧ CK g1 i a 1 (fun _ => v) [c]) := by
  refine xMet.of h0 (by decide +kernel) rfl ?_
  intro zp ze zs zm za zb zf zc hC hr hnm
  obtain ⟨la, sb, v0, hn, hl, hd, hs, hv⟩ := hC0
  refine x_aloadr_n hC dX18_comes_0 (q := 1) rfl rfl ?_
  refine x_get hC xf_X18_19_15 dX18_comes_1 (q := 4) rfl (n := (200, i)) hn rfl ?_
  refine x_iload_n hC dX18_comes_4 (q := 5) rfl rfl ?_
  refine x_callV hC xv_X18_23 dX18_comes_5 (q := 8) rfl rfl (m_J5_append h0 g (n := (200, i + 3)) (nv := (200, i + 4)) (nt := (63, 0)) (w := []) rfl h63 rfl rfl hs hv sV_0 hc (by decide)) (nn := (200, i + 3)) hs rfl rfl (Nat.le_of_ble_eq_true rfl) ⟨(Nat.le_of_ble_eq_true rfl), (Nat.le_of_ble_eq_true rfl)⟩ ⟨(Nat.le_of_ble_eq_true rfl), (Nat.le_of_ble_eq_true rfl)⟩ (fun v g1 hp => ?_)
  obtain ⟨v1, c1, f1, rfl, hV1, hg1⟩ := hp
  replace hg1 := hg1.symm
  subst hg1
  refine x_pop hC dX18_comes_8 (q := 9) rfl rfl ?_
  refine x_aloadr_n hC dX18_comes_9 (q := 10) rfl rfl ?_
  refine x_get hC xf_X18_10_15 dX18_comes_10 (q := 13) rfl (n := (200, i)) (by rw [xu_ne (n_snd (by omega)), xu_ne (n_snd (by omega))]; exact hn) rfl ?_
  refine x_aloadr_n hC dX18_comes_13 (q := 14) rfl rfl ?_
  refine x_callV hC xv_X18_27 dX18_comes_14 (q := 17) rfl rfl (m_J3_add_B h0 _ (n := (200, i + 1)) (nd := (200, i + 2)) (n2 := (200, k)) rfl rfl rfl (n_snd (by omega)) (n_snd (by omega)) (n_snd (by omega)) (n_fst rfl) (by rw [xu_ne (n_snd (by omega)), xu_ne (n_snd (by omega))]; exact hl) (by rw [xu_ne (n_snd (by omega)), xu_ne (n_snd (by omega))]; exact hd) ((hz.up rfl _).up rfl _) (by rw [xu_ne (n_snd (by omega)), xu_ne (n_snd (by omega))]; exact he) hx) (nn := (200, i + 1)) (by rw [xu_ne (n_snd (by omega)), xu_ne (n_snd (by omega))]; exact hl) rfl rfl (Nat.le_of_ble_eq_true rfl) ⟨(Nat.le_of_ble_eq_true rfl), (Nat.le_of_ble_eq_true rfl)⟩ ⟨(Nat.le_of_ble_eq_true rfl), (Nat.le_of_ble_eq_true rfl)⟩ (fun v g1 hp => ?_)
  obtain ⟨d1, rfl, hg1⟩ := hp
  replace hg1 := hg1.symm
  subst hg1
  refine x_pop hC dX18_comes_17 (q := 18) rfl rfl ?_
  exact x_vret hC hr dX18_comes_18 (Nat.le_of_ble_eq_true rfl) (Nat.le_of_ble_eq_true rfl) ⟨rfl, ((((CF.r0.u (by omega) (by omega) _).u (by omega) (by omega) _).u (by omega) (by omega) _).u (by omega) (by omega) _), la, sb, d1, v1, c1, _, 0, _, f1, by rw [xu_ne (n_snd (by omega)), xu_ne (n_snd (by omega)), xu_ne (n_snd (by omega)), xu_ne (n_snd (by omega))]; exact hn, xu_eq _ _ _, by rw [xu_ne (n_snd (by omega)), xu_eq], fun j hj => by rw [show j = 0 by omega]; rfl, by rw [xu_ne (n_snd (by omega)), xu_ne (n_snd (by omega)), xu_eq]; rfl, by rw [xu_ne (n_snd (by omega)), xu_ne (n_snd (by omega)), xu_ne (n_snd (by omega)), xu_eq], hV1, rfl⟩

set_option maxHeartbeats 4000000 in
set_option maxRecDepth 100000 in
theorem m_X18_comes_A {l : Launch} {s0 : State} {D : va_G} (h0 : x0 l s0 D) (g : xG) {i k a cnt v : Nat} {x : xE} {ad : Nat → Nat} {sgs : List Nat} (hk : k < i ∨ i + 5 ≤ k) (hC0 : CK g i a cnt ad sgs) (hcn : cnt < 10) (he : g (200, k) = some (v, x)) (hx : Cond.castable (xnm x) "java/lang/Object" ∈ lw_tbl) (h63 : g (63, 0) = none) {c : Nat} (hc : c < 128) : xMet l s0 D yX18_comes cX18_comes 3 none (xr 10 1 4100 360) [.ref a, .int (nI c), .ref v] g (fun r g1 => r = none ∧ CF i g g1 ∧ CK g1 i a (cnt + 1) (fun j => if j = cnt then v else ad j) (sgs ++ [c])) := by
  refine xMet.of h0 (by decide +kernel) rfl ?_
  intro zp ze zs zm za zb zf zc hC hr hnm
  obtain ⟨la, sb, dl, v0, cap, mc, ml, fa, f0, hn, hl, hd, hfa, hs, hv, hV, hlen⟩ := hC0
  refine x_aloadr_n hC dX18_comes_0 (q := 1) rfl rfl ?_
  refine x_get hC xf_X18_19_15 dX18_comes_1 (q := 4) rfl (n := (200, i)) hn rfl ?_
  refine x_iload_n hC dX18_comes_4 (q := 5) rfl rfl ?_
  refine x_callV hC xv_X18_23 dX18_comes_5 (q := 8) rfl rfl (m_J5_append h0 g (n := (200, i + 3)) (nv := (200, i + 4)) (nt := (63, 0)) (w := sgs) rfl h63 rfl rfl hs hv hV hc (by omega)) (nn := (200, i + 3)) hs rfl rfl (Nat.le_of_ble_eq_true rfl) ⟨(Nat.le_of_ble_eq_true rfl), (Nat.le_of_ble_eq_true rfl)⟩ ⟨(Nat.le_of_ble_eq_true rfl), (Nat.le_of_ble_eq_true rfl)⟩ (fun v g1 hp => ?_)
  obtain ⟨v1, c1, f1, rfl, hV1, hg1⟩ := hp
  replace hg1 := hg1.symm
  subst hg1
  refine x_pop hC dX18_comes_8 (q := 9) rfl rfl ?_
  refine x_aloadr_n hC dX18_comes_9 (q := 10) rfl rfl ?_
  refine x_get hC xf_X18_10_15 dX18_comes_10 (q := 13) rfl (n := (200, i)) (by rw [xu_ne (n_snd (by omega)), xu_ne (n_snd (by omega))]; exact hn) rfl ?_
  refine x_aloadr_n hC dX18_comes_13 (q := 14) rfl rfl ?_
  refine x_callV hC xv_X18_27 dX18_comes_14 (q := 17) rfl rfl (m_J3_add_A h0 _ (n := (200, i + 1)) (nd := (200, i + 2)) (n2 := (200, k)) rfl rfl rfl (n_snd (by omega)) (n_snd (by omega)) (by rw [xu_ne (n_snd (by omega)), xu_ne (n_snd (by omega))]; exact hl) (by rw [xu_ne (n_snd (by omega)), xu_ne (n_snd (by omega))]; exact hd) (by rw [xu_ne (n_snd (by omega)), xu_ne (n_snd (by omega))]; exact he) hx hcn (by decide)) (nn := (200, i + 1)) (by rw [xu_ne (n_snd (by omega)), xu_ne (n_snd (by omega))]; exact hl) rfl rfl (Nat.le_of_ble_eq_true rfl) ⟨(Nat.le_of_ble_eq_true rfl), (Nat.le_of_ble_eq_true rfl)⟩ ⟨(Nat.le_of_ble_eq_true rfl), (Nat.le_of_ble_eq_true rfl)⟩ (fun v g1 hp => ?_)
  obtain ⟨rfl, hg1⟩ := hp
  replace hg1 := hg1.symm
  subst hg1
  refine x_pop hC dX18_comes_17 (q := 18) rfl rfl ?_
  exact x_vret hC hr dX18_comes_18 (Nat.le_of_ble_eq_true rfl) (Nat.le_of_ble_eq_true rfl) ⟨rfl, ((((CF.r0.u (by omega) (by omega) _).u (by omega) (by omega) _).u (by omega) (by omega) _).u (by omega) (by omega) _), la, sb, dl, v1, c1, _, ml, _, f1, by rw [xu_ne (n_snd (by omega)), xu_ne (n_snd (by omega)), xu_ne (n_snd (by omega)), xu_ne (n_snd (by omega))]; exact hn, xu_eq _ _ _, by rw [xu_ne (n_snd (by omega)), xu_eq], fun j hj => by
        by_cases e : j = cnt
        · subst e; simp [va_up]
        · simp only [va_up, if_neg e]; exact hfa j (by omega), by rw [xu_ne (n_snd (by omega)), xu_ne (n_snd (by omega)), xu_eq], by rw [xu_ne (n_snd (by omega)), xu_ne (n_snd (by omega)), xu_ne (n_snd (by omega)), xu_eq], hV1, by rw [List.length_append]; show sgs.length + 1 = _; omega⟩
