/-! strings of letters below 128: equals, made out of chars -/
theorem gD_app {α : Type} {u v : List α} {j : Nat} {x : α} (h : j < u.length) : (u ++ v).getD j x = u.getD j x := by
  rw [List.getD_eq_getElem?_getD, List.getD_eq_getElem?_getD, List.getElem?_append_left h]
theorem gD_appr {α : Type} {u v : List α} {j : Nat} {x : α} (h : u.length ≤ j) : (u ++ v).getD j x = v.getD (j - u.length) x := by
  rw [List.getD_eq_getElem?_getD, List.getD_eq_getElem?_getD, List.getElem?_append_right h]
theorem sb_all : ∀ c, c < 128 → (nI c).toInt8.toInt32 = nI c ∧ vp_nar .byte (nI c) = nI c ∧ nI c &&& 255 = nI c := by decide +kernel
/-- the letters of a text -/
def sL (w : List Nat) : Nat → Int32 := fun j => nI (w.getD j 0)
/-- the first letters of an array are these -/
def sB (f : Nat → Int32) (w : List Nat) : Prop := ∀ j, j < w.length → f j = nI (w.getD j 0)
/-- all letters are below 128 -/
def sA (w : List Nat) : Prop := ∀ j, w.getD j 0 < 128
theorem sB_sL (w : List Nat) : sB (sL w) w := fun _ _ => rfl
theorem sA_of {w : List Nat} (h : w.all (fun c => Nat.blt c 128) = true) : sA w := by
  intro j
  rw [List.getD_eq_getElem?_getD]
  cases e : w[j]? with
  | none => exact (by decide : (0 : Nat) < 128)
  | some c =>
    have := List.all_eq_true.mp h c (List.mem_of_getElem? e)
    exact Nat.le_of_ble_eq_true this
theorem sA_app {u w : List Nat} (h1 : sA u) (h2 : sA w) : sA (u ++ w) := by
  intro j
  rcases Nat.lt_or_ge j u.length with e | e
  · rw [gD_app e]; exact h1 j
  · rw [gD_appr e]; exact h2 _
theorem sEqs_sL {u w : List Nat} (hu : sA u) (hw : sA w) : (u.length = w.length ∧ sEqs (sL u) (sL w) u.length = true) ↔ u = w := by
  constructor
  · rintro ⟨h1, h2⟩
    refine List.ext_getElem h1 fun j q1 q2 => ?_
    have h3 := sEqs_iff.mp h2 j q1
    have h4 : u.getD j 0 = w.getD j 0 := by
      have h5 : nI (u.getD j 0) = nI (w.getD j 0) := h3
      exact (nI_eq (by have := hu j; omega) (by have := hw j; omega)).mp h5
    rw [List.getD_eq_getElem?_getD, List.getD_eq_getElem?_getD, List.getElem?_eq_getElem q1, List.getElem?_eq_getElem q2] at h4
    exact h4
  · rintro rfl
    exact ⟨rfl, sEqs_iff.mpr fun _ _ => rfl⟩

set_option maxHeartbeats 4000000 in
set_option maxRecDepth 100000 in
theorem m_J6_equals {l : Launch} {s0 : State} {D : va_G} (h0 : x0 l s0 D) (g : xG) {n n2 nv nw : xN} {a b va wa N M : Nat} {hr hr2 : List Value} {f h : Nat → Int32} (hs : g n = some (a, xO 23 (.ref va :: .int 0 :: hr))) (hv : g nv = some (va, xAi .byte N f)) (hs2 : g n2 = some (b, xO 23 (.ref wa :: .int 0 :: hr2))) (hw : g nw = some (wa, xAi .byte M h)) (hN : N < 2 ^ 31) (hM : M < 2 ^ 31) (hab : a = b → N = M ∧ sEqs f h N = true) : xMet l s0 D yJ6_equals cJ6_equals 3 (some .boolean) (xr 2 0 0 40) [.ref a, .ref b] g (fun r g1 => r = some (.int (if N = M ∧ sEqs f h N = true then 1 else 0)) ∧ g1 = g) := by
  refine xMet.of h0 (by decide +kernel) rfl ?_
  intro p e s m args below meth c hC hr hnm
  refine x_aloadr_n hC dJ6_equals_0 (q := 1) rfl rfl ?_
  refine x_aloadr_n hC dJ6_equals_1 (q := 2) rfl rfl ?_
  refine x_acmp_ne (rx := some a) (ry := some b) hC dJ6_equals_2 (q := 5) rfl (tgt := 7) rfl (fun h2 => ?_) (fun h2 => ?_)
  · refine x_aloadr_n hC dJ6_equals_7 (q := 8) rfl rfl ?_
    refine x_instS hC q515 rfl dJ6_equals_8 (q := 11) rfl (n := n2) hs2 ?_
    refine x_if_eq hC dJ6_equals_11 (q := 14) rfl (tgt := 54) rfl (fun h11 => ?_) (fun h11 => ?_)
    · exact absurd h11 (by decide)
    skip
    refine x_aloadr_n hC dJ6_equals_14 (q := 15) rfl rfl ?_
    refine x_castS hC q515 rfl dJ6_equals_15 (q := 18) rfl (n := n2) hs2 ?_
    refine x_astorer_n hC dJ6_equals_18 (q := 19) rfl rfl ?_
    refine x_gets hC (xz_compact h0) (Or.inl q442) dJ6_equals_19 (q := 22) rfl ?_
    refine x_if_eq hC dJ6_equals_22 (q := 25) rfl (tgt := 36) rfl (fun h22 => ?_) (fun h22 => ?_)
    · exact absurd h22 (by decide)
    refine x_aloadr_n hC dJ6_equals_25 (q := 26) rfl rfl ?_
    refine x_get hC xf_J6_15_23 dJ6_equals_26 (q := 29) rfl (n := n) hs rfl ?_
    refine x_aloadr_n hC dJ6_equals_29 (q := 30) rfl rfl ?_
    refine x_get hC xf_J6_15_23 dJ6_equals_30 (q := 33) rfl (n := n2) hs2 rfl ?_
    refine x_icmp_ne hC dJ6_equals_33 (q := 36) rfl (tgt := 54) rfl (fun h33 => ?_) (fun h33 => ?_)
    · exact absurd rfl h33
    refine x_aloadr_n hC dJ6_equals_36 (q := 37) rfl rfl ?_
    refine x_get hC xf_J6_9_23 dJ6_equals_37 (q := 40) rfl (n := n) hs rfl ?_
    refine x_aloadr_n hC dJ6_equals_40 (q := 41) rfl rfl ?_
    refine x_get hC xf_J6_9_23 dJ6_equals_41 (q := 44) rfl (n := n2) hs2 rfl ?_
    refine x_callS hC xv_J6_541 dJ6_equals_44 (q := 47) rfl rfl (m_J11_equals h0 g hv hw hN hM) rfl (Nat.le_of_ble_eq_true rfl) ⟨(Nat.le_of_ble_eq_true rfl), (Nat.le_of_ble_eq_true rfl)⟩ ⟨(Nat.le_of_ble_eq_true rfl), (Nat.le_of_ble_eq_true rfl)⟩ (fun v g1 hp => ?_)
    obtain ⟨rfl, hg1⟩ := hp
    replace hg1 := hg1.symm
    subst hg1
    refine x_if_eq hC dJ6_equals_47 (q := 50) rfl (tgt := 54) rfl (fun h47 => ?_) (fun h47 => ?_)
    · have hno : ¬ (N = M ∧ sEqs f h N = true) := fun q => by rw [if_pos q] at h47; exact absurd h47 (by decide)
      refine x_iconst hC dJ6_equals_54 (q := 55) rfl (v := (0)) (by decide) ?_
      exact x_zret hC hr rfl dJ6_equals_55 (Nat.le_of_ble_eq_true rfl) (Nat.le_of_ble_eq_true rfl) (by first | exact ⟨by rw [if_neg hno], rfl⟩ | exact ⟨by rw [if_pos hys], rfl⟩)
    have hys : N = M ∧ sEqs f h N = true := Decidable.not_not.mp (fun q => h47 (by rw [if_neg q]))
    refine x_iconst hC dJ6_equals_50 (q := 51) rfl (v := (1)) (by decide) ?_
    refine x_goto hC dJ6_equals_51 (tgt := 55) rfl ?_
    exact x_zret hC hr rfl dJ6_equals_55 (Nat.le_of_ble_eq_true rfl) (Nat.le_of_ble_eq_true rfl) (by first | exact ⟨by rw [if_neg hno], rfl⟩ | exact ⟨by rw [if_pos hys], rfl⟩)
  have hys := hab (Option.some.inj h2)
  refine x_iconst hC dJ6_equals_5 (q := 6) rfl (v := (1)) (by decide) ?_
  exact x_zret hC hr rfl dJ6_equals_6 (Nat.le_of_ble_eq_true rfl) (Nat.le_of_ble_eq_true rfl) (by first | exact ⟨by rw [if_neg hno], rfl⟩ | exact ⟨by rw [if_pos hys], rfl⟩)

set_option maxHeartbeats 4000000 in
set_option maxRecDepth 100000 in
theorem m_J7_compress_2 {l : Launch} {s0 : State} {D : va_G} (h0 : x0 l s0 D) (g : xG) {ns nd : xN} {sa da NS : Nat} {fs : Nat → Int32} {w : List Nat} {o : Nat} (hs : g ns = some (sa, xAi .char NS fs)) (hNS : NS < 2 ^ 31) (ho : o + w.length ≤ NS) (hc : ∀ j, j < w.length → fs (o + j) = nI (w.getD j 0)) (hw : sA w) {ND : Nat} {fd : Nat → Int32} (hdd : Nat.blt nd.1 1000 = true) (hne : ns ≠ nd) (hd : g nd = some (da, xAi .byte ND fd)) (hD : w.length ≤ ND) (hND : ND < 2 ^ 31) : xMet l s0 D yJ7_compress_2 cJ7_compress_2 7 (some .int) (xr 0 0 0 0) [.ref sa, .int (nI o), .ref da, .int 0, .int (nI w.length)] g (fun r g1 => r = some (.int (nI w.length)) ∧ g1 = (xu g nd (some (da, xAi .byte ND (fun k => if k < w.length then nI (w.getD k 0) else fd k))))) := by
  refine xMet.of h0 (by decide +kernel) rfl ?_
  intro p e s m args below meth c hC hr hnm
  refine x_iconst hC dJ7_compress_2_0 (q := 1) rfl (v := (0)) (by decide) ?_
  refine x_istore hC dJ7_compress_2_1 (q := 3) rfl rfl ?_
  refine x_geq (g' := (xu g nd (some (da, xAi .byte ND (fun k => if k < 0 then nI (w.getD k 0) else fd k))))) (by
    have e : (fun k => if k < 0 then nI (w.getD k 0) else fd k) = fd := by funext k; exact if_neg (Nat.not_lt_zero k)
    rw [e]
    exact (xu_self hd).symm) ?_
  refine x_loop (S := (fun i : Nat × Option Value => ((0 : Nat), (0 : Nat), (xu g nd (some (da, xAi .byte ND (fun k => if k < i.1 then nI (w.getD k 0) else fd k)))), ([some (.ref sa), some (.int (nI (o + i.1))), some (.ref da), some (.int (nI i.1)), some (.int (nI w.length)), some (.int (nI i.1)), i.2] : xL), ([] : List Value)))) (Inv := fun i => i.1 ≤ w.length) (μ := fun i => w.length - i.1) ?_ (0, none) (Nat.zero_le _)
  intro i hi ih
  obtain ⟨j, lx⟩ := i
  dsimp only at hi ih ⊢
  refine x_iload hC dJ7_compress_2_3 (q := 5) rfl rfl ?_
  refine x_iload hC dJ7_compress_2_5 (q := 7) rfl rfl ?_
  refine x_icmp_ge hC dJ7_compress_2_7 (q := 10) rfl (tgt := 44) rfl (fun h7 => ?_) (fun h7 => ?_)
  · have hj3 : j = w.length := by
      have h2 : nI w.length ≤ nI j := h7
      have := (nI_leI (by omega) (by omega)).mp h2
      omega
    subst hj3
    refine x_iload hC dJ7_compress_2_44 (q := 46) rfl rfl ?_
    exact x_iret hC hr dJ7_compress_2_46 (Nat.le_of_ble_eq_true rfl) (Nat.le_of_ble_eq_true rfl) ⟨rfl, rfl⟩
  have hj2 : j < w.length := Nat.lt_of_not_le (fun q => h7 (show nI w.length ≤ nI j from nI_le q (by omega)))
  have hc1 : w.getD j 0 < 128 := hw j
  refine x_aloadr_n hC dJ7_compress_2_10 (q := 11) rfl rfl ?_
  refine x_iload_n hC dJ7_compress_2_11 (q := 12) rfl rfl ?_
  refine x_cald hC dJ7_compress_2_12 (q := 13) rfl (n := ns) (by rw [xu_ne hne]; exact hs) rfl (by omega) hNS ?_
  rw [hc j hj2]
  refine x_istore hC dJ7_compress_2_13 (q := 15) rfl rfl ?_
  refine x_iload hC dJ7_compress_2_15 (q := 17) rfl rfl ?_
  refine x_sipush hC dJ7_compress_2_17 (q := 20) rfl (v := (255)) (by decide) ?_
  refine x_icmp_le hC dJ7_compress_2_20 (q := 23) rfl (tgt := 26) rfl (fun h20 => ?_) (fun h20 => ?_)
  · refine x_aloadr_n hC dJ7_compress_2_26 (q := 27) rfl rfl ?_
    refine x_iload_n hC dJ7_compress_2_27 (q := 28) rfl rfl ?_
    refine x_iload hC dJ7_compress_2_28 (q := 30) rfl rfl ?_
    refine x_i2b hC dJ7_compress_2_30 (q := 31) rfl ?_
    refine x_bast hC dJ7_compress_2_31 (q := 32) rfl (n := nd) hdd (xu_eq _ _ _) rfl (by omega) hND ?_
    rw [(sb_all _ hc1).1, (sb_all _ hc1).2.1]
    refine x_geq (g' := (xu g nd (some (da, xAi .byte ND (fun k => if k < (j + 1) then nI (w.getD k 0) else fd k))))) (by
      rw [xu_xu]
      have e : upd (fun k => if k < j then nI (w.getD k 0) else fd k) j (nI (w.getD j 0)) = (fun k => if k < (j + 1) then nI (w.getD k 0) else fd k) := by
        funext k
        by_cases e : k = j
        · rw [e]; simp [upd]
        · by_cases e2 : k < j
          · simp [upd, e, e2, show k < j + 1 by omega]
          · simp [upd, e, e2, show ¬ k < j + 1 by omega]
      rw [e]) ?_
    refine x_iinc hC dJ7_compress_2_32 (q := 35) rfl rfl (v := nI (o + (j + 1))) (by rw [← Nat.add_assoc]; exact nI_1 _) ?_
    refine x_iinc hC dJ7_compress_2_35 (q := 38) rfl rfl (v := nI (j + 1)) (nI_1 j) ?_
    refine x_iinc hC dJ7_compress_2_38 (q := 41) rfl rfl (v := nI (j + 1)) (nI_1 j) ?_
    refine x_goto hC dJ7_compress_2_41 (tgt := 3) rfl ?_
    exact ih (j + 1, some _) (by dsimp only; omega) (by dsimp only; omega)
  · exact absurd (show nI (w.getD j 0) ≤ nI 255 from nI_le (by omega) (by decide)) h20

theorem sL_if (w : List Nat) : (fun k => if k < w.length then nI (w.getD k 0) else (0 : Int32)) = sL w := by
  funext k
  by_cases h : k < w.length
  · exact if_pos h
  · rw [if_neg h]
    show 0 = nI (w.getD k 0)
    rw [List.getD_eq_getElem?_getD, List.getElem?_eq_none (by omega)]
    rfl

set_option maxHeartbeats 4000000 in
set_option maxRecDepth 100000 in
theorem m_J7_compress {l : Launch} {s0 : State} {D : va_G} (h0 : x0 l s0 D) (g : xG) {ns nd : xN} {sa NS : Nat} {fs : Nat → Int32} {w : List Nat} {o : Nat} (hs : g ns = some (sa, xAi .char NS fs)) (hNS : NS < 2 ^ 31) (ho : o + w.length ≤ NS) (hc : ∀ j, j < w.length → fs (o + j) = nI (w.getD j 0)) (hw : sA w) (hdd : Nat.blt nd.1 1000 = true) (hd : g nd = none) (hl : w.length ≤ 16) : xMet l s0 D yJ7_compress cJ7_compress 6 (some (.array .byte)) (xr 1 1 16 40) [.ref sa, .int (nI o), .int (nI w.length)] g (fun r g1 => ∃ d1, r = some (.ref d1) ∧ g1 = xu g nd (some (d1, xAi .byte w.length (sL w)))) := by
  refine xMet.of h0 (by decide +kernel) rfl ?_
  intro p e s m args below meth c hC hr hnm
  refine x_iload_n hC dJ7_compress_0 (q := 1) rfl rfl ?_
  refine x_newa hC (at0 := .byte) (N := w.length) (x := (w.length, .inl (fun _ => 0))) nd q497 dJ7_compress_1 (q := 3) rfl hdd hd rfl (by omega) (fun _ => rfl) (Nat.le_of_ble_eq_true rfl) (by dsimp only; omega) (fun a_1 => ?_)
  refine x_astorer_n hC dJ7_compress_3 (q := 4) rfl rfl ?_
  have hne : ns ≠ nd := fun q => by rw [q, hd] at hs; cases hs
  refine x_aloadr_n hC dJ7_compress_4 (q := 5) rfl rfl ?_
  refine x_iload_n hC dJ7_compress_5 (q := 6) rfl rfl ?_
  refine x_aloadr_n hC dJ7_compress_6 (q := 7) rfl rfl ?_
  refine x_iconst hC dJ7_compress_7 (q := 8) rfl (v := (0)) (by decide) ?_
  refine x_iload_n hC dJ7_compress_8 (q := 9) rfl rfl ?_
  refine x_callS hC xv_J7_115 dJ7_compress_9 (q := 12) rfl rfl (m_J7_compress_2 h0 _ (ns := ns) (nd := nd) (fd := fun _ => 0) (by rw [xu_ne hne]; exact hs) hNS ho hc hw hdd hne (xu_eq _ _ _) (Nat.le_refl _) (by omega)) rfl (Nat.le_of_ble_eq_true rfl) ⟨(Nat.le_of_ble_eq_true rfl), (Nat.le_of_ble_eq_true rfl)⟩ ⟨(Nat.le_of_ble_eq_true rfl), (by dsimp only; omega)⟩ (fun v g1 hp => ?_)
  rw [xu_xu, sL_if] at hp
  obtain ⟨rfl, hg1⟩ := hp
  replace hg1 := hg1.symm
  subst hg1
  refine x_istore hC dJ7_compress_12 (q := 14) rfl rfl ?_
  refine x_iload hC dJ7_compress_14 (q := 16) rfl rfl ?_
  refine x_iload_n hC dJ7_compress_16 (q := 17) rfl rfl ?_
  refine x_icmp_eq hC dJ7_compress_17 (q := 20) rfl (tgt := 57) rfl (fun h17 => ?_) (fun h17 => ?_)
  · refine x_aloadr_n hC dJ7_compress_57 (q := 58) rfl rfl ?_
    exact x_aret hC hr (Or.inr ⟨_, rfl⟩) (Or.inr ⟨_, rfl⟩) dJ7_compress_58 (Nat.le_of_ble_eq_true rfl) (by dsimp only; omega) ⟨_, rfl, rfl⟩
  · exact absurd rfl h17

set_option maxHeartbeats 4000000 in
set_option maxRecDepth 100000 in
theorem m_J7_coderFromArrayLen {l : Launch} {s0 : State} {D : va_G} (h0 : x0 l s0 D) (g : xG) {nv : xN} {va N : Nat} {f : Nat → Int32} (hv : g nv = some (va, xAi .byte N f)) : xMet l s0 D yJ7_coderFromArrayLen cJ7_coderFromArrayLen 2 (some .byte) (xr 0 0 0 0) [.ref va, .int (nI N)] g (fun r g1 => r = some (.int 0) ∧ g1 = g) := by
  refine xMet.of h0 (by decide +kernel) rfl ?_
  intro p e s m args below meth c hC hr hnm
  refine x_iload_n hC dJ7_coderFromArrayLen_0 (q := 1) rfl rfl ?_
  refine x_aloadr_n hC dJ7_coderFromArrayLen_1 (q := 2) rfl rfl ?_
  refine x_alen hC dJ7_coderFromArrayLen_2 (q := 3) rfl (n := nv) hv ?_
  refine x_isub hC dJ7_coderFromArrayLen_3 (q := 4) rfl ?_
  dsimp only
  rw [show nI N - nI N = 0 from Int32.sub_self _]
  refine x_bipush hC dJ7_coderFromArrayLen_4 (q := 6) rfl (v := (31)) (by decide) ?_
  refine x_iushr hC dJ7_coderFromArrayLen_6 (q := 7) rfl ?_
  refine x_i2b hC dJ7_coderFromArrayLen_7 (q := 8) rfl ?_
  exact x_zret hC hr (by decide) dJ7_coderFromArrayLen_8 (Nat.le_of_ble_eq_true rfl) (Nat.le_of_ble_eq_true rfl) ⟨by decide, rfl⟩

set_option maxHeartbeats 4000000 in
set_option maxRecDepth 100000 in
theorem m_J6_init_2 {l : Launch} {s0 : State} {D : va_G} (h0 : x0 l s0 D) (g : xG) {n ns nd : xN} {a sa NS : Nat} {fs : Nat → Int32} {w : List Nat} {o : Nat} (hs : g ns = some (sa, xAi .char NS fs)) (hNS : NS < 2 ^ 31) (ho : o + w.length ≤ NS) (hc : ∀ j, j < w.length → fs (o + j) = nI (w.getD j 0)) (hw : sA w) (hdd : Nat.blt nd.1 1000 = true) (hd : g nd = none) (hl : w.length ≤ 16) (hdn : Nat.blt n.1 1000 = true) (hn : g n = some (a, xO 23 [.null, .int 0, .int 0, .int 0])) (h1 : 0 < w.length) : xMet l s0 D yJ6_init_2 cJ6_init_2 6 none (xr 2 1 16 80) [.ref a, .ref sa, .int (nI o), .int (nI w.length), .null] g (fun r g1 => ∃ d1, r = none ∧ g1 = xu (xu g nd (some (d1, xAi .byte w.length (sL w)))) n (some (a, xO 23 [.ref d1, .int 0, .int 0, .int 0]))) := by
  refine xMet.of h0 (by decide +kernel) rfl ?_
  intro p e s m args below meth c hC hr hnm
  refine x_aloadr_n hC dJ6_init_2_0 (q := 1) rfl rfl ?_
  refine x_objInit hC q440 q124 q125 dJ6_init_2_1 (q := 4) rfl (by decide) (Nat.le_of_ble_eq_true rfl) (Nat.le_of_ble_eq_true rfl) ?_
  refine x_iload_n hC dJ6_init_2_4 (q := 5) rfl rfl ?_
  refine x_if_ne hC dJ6_init_2_5 (q := 8) rfl (tgt := 27) rfl (fun h5 => ?_) (fun h5 => ?_)
  · refine x_gets hC (xz_compact h0) (Or.inl q442) dJ6_init_2_27 (q := 30) rfl ?_
    refine x_if_eq hC dJ6_init_2_30 (q := 33) rfl (tgt := 58) rfl (fun h30 => ?_) (fun h30 => ?_)
    · exact absurd h30 (by decide)
    have hnd : n ≠ nd := fun q => by rw [q, hd] at hn; cases hn
    refine x_aloadr_n hC dJ6_init_2_33 (q := 34) rfl rfl ?_
    refine x_iload_n hC dJ6_init_2_34 (q := 35) rfl rfl ?_
    refine x_iload_n hC dJ6_init_2_35 (q := 36) rfl rfl ?_
    refine x_callS hC xv_J6_177 dJ6_init_2_36 (q := 39) rfl rfl (m_J7_compress h0 g hs hNS ho hc hw hdd hd hl) rfl (Nat.le_of_ble_eq_true rfl) ⟨(Nat.le_of_ble_eq_true rfl), (Nat.le_of_ble_eq_true rfl)⟩ ⟨(Nat.le_of_ble_eq_true rfl), (Nat.le_of_ble_eq_true rfl)⟩ (fun v g1 hp => ?_)
    obtain ⟨d1, rfl, hg1⟩ := hp
    replace hg1 := hg1.symm
    subst hg1
    refine x_astorer hC dJ6_init_2_39 (q := 41) rfl rfl ?_
    refine x_aloadr_n hC dJ6_init_2_41 (q := 42) rfl rfl ?_
    refine x_aloadr hC dJ6_init_2_42 (q := 44) rfl rfl ?_
    refine x_iload_n hC dJ6_init_2_44 (q := 45) rfl rfl ?_
    refine x_callS hC xv_J6_47 dJ6_init_2_45 (q := 48) rfl rfl (m_J7_coderFromArrayLen h0 _ (nv := nd) (xu_eq _ _ _)) rfl (Nat.le_of_ble_eq_true rfl) ⟨(Nat.le_of_ble_eq_true rfl), (Nat.le_of_ble_eq_true rfl)⟩ ⟨(Nat.le_of_ble_eq_true rfl), (Nat.le_of_ble_eq_true rfl)⟩ (fun v g1 hp => ?_)
    obtain ⟨rfl, hg1⟩ := hp
    replace hg1 := hg1.symm
    subst hg1
    refine x_putF hC hnm (n := n) xff_J6_15_23 xd_23 hdn dJ6_init_2_48 (q := 51) rfl (by rw [xu_ne hnd]; exact hn) rfl rfl rfl ?_
    refine x_aloadr_n hC dJ6_init_2_51 (q := 52) rfl rfl ?_
    refine x_aloadr hC dJ6_init_2_52 (q := 54) rfl rfl ?_
    refine x_putF hC hnm (n := n) xff_J6_9_23 xd_23 hdn dJ6_init_2_54 (q := 57) rfl (xu_eq _ _ _) rfl rfl rfl ?_
    exact x_vret hC hr dJ6_init_2_57 (Nat.le_of_ble_eq_true rfl) (Nat.le_of_ble_eq_true rfl) ⟨d1, rfl, by rw [xu_xu]; rfl⟩
  · exact absurd (nI_eq0 (by omega) h5) (by omega)

theorem nI_or (a b : Nat) : nI a ||| nI b = nI (a ||| b) := by
  apply Int32.toBitVec_inj.mp
  show BitVec.ofNat 32 a ||| BitVec.ofNat 32 b = BitVec.ofNat 32 (a ||| b)
  apply BitVec.eq_of_toNat_eq
  rw [BitVec.toNat_or, BitVec.toNat_ofNat, BitVec.toNat_ofNat, BitVec.toNat_ofNat, Nat.or_mod_two_pow]

set_option maxHeartbeats 4000000 in
set_option maxRecDepth 100000 in
theorem m_J10_checkFromIndexSize_n {l : Launch} {s0 : State} {D : va_G} (h0 : x0 l s0 D) (g : xG) {o k N : Nat} (h1 : o + k ≤ N) (hN : N < 2 ^ 31)  : xMet l s0 D yJ10_checkFromIndexSize cJ10_checkFromIndexSize 4 (some .int) (xr 0 0 0 0) [.int (nI o), .int (nI k), .int (nI N), .null] g (fun r g1 => r = some (.int (nI o)) ∧ g1 = g) := by
  refine xMet.of h0 (by decide +kernel) rfl ?_
  intro p e s m args below meth c hC hr hnm
  refine x_iload_n hC dJ10_checkFromIndexSize_0 (q := 1) rfl rfl ?_
  refine x_iload_n hC dJ10_checkFromIndexSize_1 (q := 2) rfl rfl ?_
  refine x_ior hC dJ10_checkFromIndexSize_2 (q := 3) rfl ?_
  refine x_iload_n hC dJ10_checkFromIndexSize_3 (q := 4) rfl rfl ?_
  refine x_ior hC dJ10_checkFromIndexSize_4 (q := 5) rfl ?_
  refine x_if_lt hC dJ10_checkFromIndexSize_5 (q := 8) rfl (tgt := 15) rfl (fun h5 => ?_) (fun h5 => ?_)
  · exact absurd h5 (by rw [nI_or, nI_or]; exact nI_pos (Nat.or_lt_two_pow (Nat.or_lt_two_pow hN (by omega)) (by omega)))
  have hs1 : nI N - nI o = nI (N - o) := nI_sub (by omega)
  refine x_iload_n hC dJ10_checkFromIndexSize_8 (q := 9) rfl rfl ?_
  refine x_iload_n hC dJ10_checkFromIndexSize_9 (q := 10) rfl rfl ?_
  refine x_iload_n hC dJ10_checkFromIndexSize_10 (q := 11) rfl rfl ?_
  refine x_isub hC dJ10_checkFromIndexSize_11 (q := 12) rfl ?_
  refine x_icmp_le hC dJ10_checkFromIndexSize_12 (q := 15) rfl (tgt := 23) rfl (fun h12 => ?_) (fun h12 => ?_)
  · skip
    refine x_iload_n hC dJ10_checkFromIndexSize_23 (q := 24) rfl rfl ?_
    exact x_iret hC hr dJ10_checkFromIndexSize_24 (Nat.le_of_ble_eq_true rfl) (Nat.le_of_ble_eq_true rfl) ⟨rfl, rfl⟩
  · exact absurd (show nI k ≤ nI N - nI o by rw [hs1]; exact nI_le (by omega) (by omega)) h12

set_option maxHeartbeats 4000000 in
set_option maxRecDepth 100000 in
theorem m_J6_checkBoundsOffCount_n {l : Launch} {s0 : State} {D : va_G} (h0 : x0 l s0 D) (g : xG) {o k N : Nat} (h1 : o + k ≤ N) (hN : N < 2 ^ 31) (hz : va_Z "jdk/internal/util/Preconditions" "SIOOBE_FORMATTER" "Ljava/util/function/BiFunction;" (.null) (xA0 s0) s0 s0.heap) : xMet l s0 D yJ6_checkBoundsOffCount cJ6_checkBoundsOffCount 3 (some .int) (xr 1 0 0 23) [.int (nI o), .int (nI k), .int (nI N)] g (fun r g1 => r = some (.int (nI o)) ∧ g1 = g) := by
  refine xMet.of h0 (by decide +kernel) rfl ?_
  intro p e s m args below meth c hC hr hnm
  refine x_iload_n hC dJ6_checkBoundsOffCount_0 (q := 1) rfl rfl ?_
  refine x_iload_n hC dJ6_checkBoundsOffCount_1 (q := 2) rfl rfl ?_
  refine x_iload_n hC dJ6_checkBoundsOffCount_2 (q := 3) rfl rfl ?_
  refine x_gets hC hz (Or.inl q432) dJ6_checkBoundsOffCount_3 (q := 6) rfl ?_
  refine x_callS hC xv_J6_1065 dJ6_checkBoundsOffCount_6 (q := 9) rfl rfl (m_J10_checkFromIndexSize_n h0 g h1 hN) rfl (Nat.le_of_ble_eq_true rfl) ⟨(Nat.le_of_ble_eq_true rfl), (Nat.le_of_ble_eq_true rfl)⟩ ⟨(Nat.le_of_ble_eq_true rfl), (Nat.le_of_ble_eq_true rfl)⟩ (fun v g1 hp => ?_)
  obtain ⟨rfl, hg1⟩ := hp
  replace hg1 := hg1.symm
  subst hg1
  exact x_iret hC hr dJ6_checkBoundsOffCount_9 (Nat.le_of_ble_eq_true rfl) (Nat.le_of_ble_eq_true rfl) ⟨rfl, rfl⟩

set_option maxHeartbeats 4000000 in
set_option maxRecDepth 100000 in
theorem m_J10_checkFromIndexSize_r {l : Launch} {s0 : State} {D : va_G} (h0 : x0 l s0 D) (g : xG) {o k N : Nat} (h1 : o + k ≤ N) (hN : N < 2 ^ 31) (t : Nat)  : xMet l s0 D yJ10_checkFromIndexSize cJ10_checkFromIndexSize 4 (some .int) (xr 0 0 0 0) [.int (nI o), .int (nI k), .int (nI N), .ref t] g (fun r g1 => r = some (.int (nI o)) ∧ g1 = g) := by
  refine xMet.of h0 (by decide +kernel) rfl ?_
  intro p e s m args below meth c hC hr hnm
  refine x_iload_n hC dJ10_checkFromIndexSize_0 (q := 1) rfl rfl ?_
  refine x_iload_n hC dJ10_checkFromIndexSize_1 (q := 2) rfl rfl ?_
  refine x_ior hC dJ10_checkFromIndexSize_2 (q := 3) rfl ?_
  refine x_iload_n hC dJ10_checkFromIndexSize_3 (q := 4) rfl rfl ?_
  refine x_ior hC dJ10_checkFromIndexSize_4 (q := 5) rfl ?_
  refine x_if_lt hC dJ10_checkFromIndexSize_5 (q := 8) rfl (tgt := 15) rfl (fun h5 => ?_) (fun h5 => ?_)
  · exact absurd h5 (by rw [nI_or, nI_or]; exact nI_pos (Nat.or_lt_two_pow (Nat.or_lt_two_pow hN (by omega)) (by omega)))
  have hs1 : nI N - nI o = nI (N - o) := nI_sub (by omega)
  refine x_iload_n hC dJ10_checkFromIndexSize_8 (q := 9) rfl rfl ?_
  refine x_iload_n hC dJ10_checkFromIndexSize_9 (q := 10) rfl rfl ?_
  refine x_iload_n hC dJ10_checkFromIndexSize_10 (q := 11) rfl rfl ?_
  refine x_isub hC dJ10_checkFromIndexSize_11 (q := 12) rfl ?_
  refine x_icmp_le hC dJ10_checkFromIndexSize_12 (q := 15) rfl (tgt := 23) rfl (fun h12 => ?_) (fun h12 => ?_)
  · skip
    refine x_iload_n hC dJ10_checkFromIndexSize_23 (q := 24) rfl rfl ?_
    exact x_iret hC hr dJ10_checkFromIndexSize_24 (Nat.le_of_ble_eq_true rfl) (Nat.le_of_ble_eq_true rfl) ⟨rfl, rfl⟩
  · exact absurd (show nI k ≤ nI N - nI o by rw [hs1]; exact nI_le (by omega) (by omega)) h12

set_option maxHeartbeats 4000000 in
set_option maxRecDepth 100000 in
theorem m_J6_checkBoundsOffCount_r {l : Launch} {s0 : State} {D : va_G} (h0 : x0 l s0 D) (g : xG) {o k N : Nat} (h1 : o + k ≤ N) (hN : N < 2 ^ 31) (t : Nat) (hz : va_Z "jdk/internal/util/Preconditions" "SIOOBE_FORMATTER" "Ljava/util/function/BiFunction;" (.ref t) (xA0 s0) s0 s0.heap) : xMet l s0 D yJ6_checkBoundsOffCount cJ6_checkBoundsOffCount 3 (some .int) (xr 1 0 0 23) [.int (nI o), .int (nI k), .int (nI N)] g (fun r g1 => r = some (.int (nI o)) ∧ g1 = g) := by
  refine xMet.of h0 (by decide +kernel) rfl ?_
  intro p e s m args below meth c hC hr hnm
  refine x_iload_n hC dJ6_checkBoundsOffCount_0 (q := 1) rfl rfl ?_
  refine x_iload_n hC dJ6_checkBoundsOffCount_1 (q := 2) rfl rfl ?_
  refine x_iload_n hC dJ6_checkBoundsOffCount_2 (q := 3) rfl rfl ?_
  refine x_gets hC hz (Or.inl q432) dJ6_checkBoundsOffCount_3 (q := 6) rfl ?_
  refine x_callS hC xv_J6_1065 dJ6_checkBoundsOffCount_6 (q := 9) rfl rfl (m_J10_checkFromIndexSize_r h0 g h1 hN t) rfl (Nat.le_of_ble_eq_true rfl) ⟨(Nat.le_of_ble_eq_true rfl), (Nat.le_of_ble_eq_true rfl)⟩ ⟨(Nat.le_of_ble_eq_true rfl), (Nat.le_of_ble_eq_true rfl)⟩ (fun v g1 hp => ?_)
  obtain ⟨rfl, hg1⟩ := hp
  replace hg1 := hg1.symm
  subst hg1
  exact x_iret hC hr dJ6_checkBoundsOffCount_9 (Nat.le_of_ble_eq_true rfl) (Nat.le_of_ble_eq_true rfl) ⟨rfl, rfl⟩

theorem m_J6_checkBoundsOffCount {l : Launch} {s0 : State} {D : va_G} (h0 : x0 l s0 D) (g : xG) {o k N : Nat} (h1 : o + k ≤ N) (hN : N < 2 ^ 31) : xMet l s0 D yJ6_checkBoundsOffCount cJ6_checkBoundsOffCount 3 (some .int) (xr 1 0 0 23) [.int (nI o), .int (nI k), .int (nI N)] g (fun r g1 => r = some (.int (nI o)) ∧ g1 = g) := by
  rcases xz_sioobe h0 with hz | ⟨t, hz⟩
  · exact m_J6_checkBoundsOffCount_n h0 g h1 hN hz
  · exact m_J6_checkBoundsOffCount_r h0 g h1 hN t hz

set_option maxHeartbeats 4000000 in
set_option maxRecDepth 100000 in
theorem m_J6_rangeCheck {l : Launch} {s0 : State} {D : va_G} (h0 : x0 l s0 D) (g : xG) {ns : xN} {sa o k N : Nat} {fs : Nat → Int32} (hs : g ns = some (sa, xAi .char N fs)) (h1 : o + k ≤ N) (hN : N < 2 ^ 31) : xMet l s0 D yJ6_rangeCheck cJ6_rangeCheck 3 (some (.object "java/lang/Void")) (xr 2 0 0 50) [.ref sa, .int (nI o), .int (nI k)] g (fun r g1 => r = some .null ∧ g1 = g) := by
  refine xMet.of h0 (by decide +kernel) rfl ?_
  intro p e s m args below meth c hC hr hnm
  refine x_iload_n hC dJ6_rangeCheck_0 (q := 1) rfl rfl ?_
  refine x_iload_n hC dJ6_rangeCheck_1 (q := 2) rfl rfl ?_
  refine x_aloadr_n hC dJ6_rangeCheck_2 (q := 3) rfl rfl ?_
  refine x_alen hC dJ6_rangeCheck_3 (q := 4) rfl (n := ns) hs ?_
  refine x_callS hC xv_J6_34 dJ6_rangeCheck_4 (q := 7) rfl rfl (m_J6_checkBoundsOffCount h0 g h1 hN) rfl (Nat.le_of_ble_eq_true rfl) ⟨(Nat.le_of_ble_eq_true rfl), (Nat.le_of_ble_eq_true rfl)⟩ ⟨(Nat.le_of_ble_eq_true rfl), (Nat.le_of_ble_eq_true rfl)⟩ (fun v g1 hp => ?_)
  obtain ⟨rfl, hg1⟩ := hp
  replace hg1 := hg1.symm
  subst hg1
  refine x_pop hC dJ6_rangeCheck_7 (q := 8) rfl rfl ?_
  refine x_null hC dJ6_rangeCheck_8 (q := 9) rfl ?_
  exact x_aret hC hr (Or.inl ⟨_, rfl⟩) (Or.inl rfl) dJ6_rangeCheck_9 (Nat.le_of_ble_eq_true rfl) (Nat.le_of_ble_eq_true rfl) ⟨rfl, rfl⟩

set_option maxHeartbeats 4000000 in
set_option maxRecDepth 100000 in
theorem m_J6_init {l : Launch} {s0 : State} {D : va_G} (h0 : x0 l s0 D) (g : xG) {n ns nd : xN} {a sa NS : Nat} {fs : Nat → Int32} {w : List Nat} {o : Nat} (hs : g ns = some (sa, xAi .char NS fs)) (hNS : NS < 2 ^ 31) (ho : o + w.length ≤ NS) (hc : ∀ j, j < w.length → fs (o + j) = nI (w.getD j 0)) (hw : sA w) (hdd : Nat.blt nd.1 1000 = true) (hd : g nd = none) (hl : w.length ≤ 16) (hdn : Nat.blt n.1 1000 = true) (hn : g n = some (a, xO 23 [.null, .int 0, .int 0, .int 0])) (h1 : 0 < w.length) : xMet l s0 D yJ6_init cJ6_init 4 none (xr 3 1 16 120) [.ref a, .ref sa, .int (nI o), .int (nI w.length)] g (fun r g1 => ∃ d1, r = none ∧ g1 = xu (xu g nd (some (d1, xAi .byte w.length (sL w)))) n (some (a, xO 23 [.ref d1, .int 0, .int 0, .int 0]))) := by
  refine xMet.of h0 (by decide +kernel) rfl ?_
  intro p e s m args below meth c hC hr hnm
  refine x_aloadr_n hC dJ6_init_0 (q := 1) rfl rfl ?_
  refine x_aloadr_n hC dJ6_init_1 (q := 2) rfl rfl ?_
  refine x_iload_n hC dJ6_init_2 (q := 3) rfl rfl ?_
  refine x_iload_n hC dJ6_init_3 (q := 4) rfl rfl ?_
  refine x_aloadr_n hC dJ6_init_4 (q := 5) rfl rfl ?_
  refine x_iload_n hC dJ6_init_5 (q := 6) rfl rfl ?_
  refine x_iload_n hC dJ6_init_6 (q := 7) rfl rfl ?_
  refine x_callS hC xv_J6_30 dJ6_init_7 (q := 10) rfl rfl (m_J6_rangeCheck h0 g hs ho hNS) rfl (Nat.le_of_ble_eq_true rfl) ⟨(Nat.le_of_ble_eq_true rfl), (Nat.le_of_ble_eq_true rfl)⟩ ⟨(Nat.le_of_ble_eq_true rfl), (Nat.le_of_ble_eq_true rfl)⟩ (fun v g1 hp => ?_)
  obtain ⟨rfl, hg1⟩ := hp
  replace hg1 := hg1.symm
  subst hg1
  refine x_callI hC xv_J6_27 dJ6_init_10 (q := 13) rfl rfl (m_J6_init_2 h0 g hs hNS ho hc hw hdd hd hl hdn hn h1) rfl (Nat.le_of_ble_eq_true rfl) ⟨(Nat.le_of_ble_eq_true rfl), (Nat.le_of_ble_eq_true rfl)⟩ ⟨(Nat.le_of_ble_eq_true rfl), (Nat.le_of_ble_eq_true rfl)⟩ (fun v g1 hp => ?_)
  obtain ⟨d1, rfl, hg1⟩ := hp
  replace hg1 := hg1.symm
  subst hg1
  exact x_vret hC hr dJ6_init_13 (Nat.le_of_ble_eq_true rfl) (Nat.le_of_ble_eq_true rfl) ⟨d1, rfl, rfl⟩
