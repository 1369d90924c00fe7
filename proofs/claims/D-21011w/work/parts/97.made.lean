/-! formulas are made -/
set_option maxHeartbeats 4000000 in
set_option maxRecDepth 100000 in
theorem m_X10_init {l : Launch} {s0 : State} {D : va_G} (h0 : x0 l s0 D) (g : xG) {n : xN} {a : Nat} {v : Int32} (hd : Nat.blt n.1 1000 = true) (hn : g n = some (a, xO 7 [.int 0])) : xMet l s0 D yX10_init cX10_init 2 none (xr 1 0 0 20) [.ref a, .int v] g (fun r g1 => r = none ∧ g1 = xu g n (some (a, xO 7 [.int v]))) := by
  refine xMet.of h0 (by decide +kernel) rfl ?_
  intro zp ze zs zm za zb zf zc hC hr hnm
  refine x_aloadr_n hC dX10_init_0 (q := 1) rfl rfl ?_
  refine x_objInit hC q811 q124 q125 dX10_init_1 (q := 4) rfl (by decide) (Nat.le_of_ble_eq_true rfl) (Nat.le_of_ble_eq_true rfl) ?_
  refine x_aloadr_n hC dX10_init_4 (q := 5) rfl rfl ?_
  refine x_iload_n hC dX10_init_5 (q := 6) rfl rfl ?_
  refine x_putF hC hnm (n := n) xff_X10_7_7 xd_7 hd dX10_init_6 (q := 9) rfl hn rfl rfl rfl ?_
  exact x_vret hC hr dX10_init_9 (Nat.le_of_ble_eq_true rfl) (Nat.le_of_ble_eq_true rfl) ⟨rfl, rfl⟩

set_option maxHeartbeats 4000000 in
set_option maxRecDepth 100000 in
theorem m_X11_init {l : Launch} {s0 : State} {D : va_G} (h0 : x0 l s0 D) (g : xG) {n : xN} {a : Nat} {v : Int32} (hd : Nat.blt n.1 1000 = true) (hn : g n = some (a, xO 8 [.int 0])) : xMet l s0 D yX11_init cX11_init 2 none (xr 1 0 0 20) [.ref a, .int v] g (fun r g1 => r = none ∧ g1 = xu g n (some (a, xO 8 [.int v]))) := by
  refine xMet.of h0 (by decide +kernel) rfl ?_
  intro zp ze zs zm za zb zf zc hC hr hnm
  refine x_aloadr_n hC dX11_init_0 (q := 1) rfl rfl ?_
  refine x_objInit hC q827 q124 q125 dX11_init_1 (q := 4) rfl (by decide) (Nat.le_of_ble_eq_true rfl) (Nat.le_of_ble_eq_true rfl) ?_
  refine x_aloadr_n hC dX11_init_4 (q := 5) rfl rfl ?_
  refine x_iload_n hC dX11_init_5 (q := 6) rfl rfl ?_
  refine x_putF hC hnm (n := n) xff_X11_7_8 xd_8 hd dX11_init_6 (q := 9) rfl hn rfl rfl rfl ?_
  exact x_vret hC hr dX11_init_9 (Nat.le_of_ble_eq_true rfl) (Nat.le_of_ble_eq_true rfl) ⟨rfl, rfl⟩

set_option maxHeartbeats 4000000 in
set_option maxRecDepth 100000 in
theorem m_X13_init {l : Launch} {s0 : State} {D : va_G} (h0 : x0 l s0 D) (g : xG) {n : xN} {a a1 a2 c : Nat} (hd : Nat.blt n.1 1000 = true) (hc : c < 128) (hn : g n = some (a, xO 10 [.int 0, .null, .null])) : xMet l s0 D yX13_init cX13_init 4 none (xr 1 0 0 20) [.ref a, .int (nI c), .ref a1, .ref a2] g (fun r g1 => r = none ∧ g1 = xu g n (some (a, xO 10 [.int (nI c), .ref a1, .ref a2]))) := by
  refine xMet.of h0 (by decide +kernel) rfl ?_
  intro zp ze zs zm za zb zf zc hC hr hnm
  refine x_aloadr_n hC dX13_init_0 (q := 1) rfl rfl ?_
  refine x_objInit hC q895 q124 q125 dX13_init_1 (q := 4) rfl (by decide) (Nat.le_of_ble_eq_true rfl) (Nat.le_of_ble_eq_true rfl) ?_
  refine x_aloadr_n hC dX13_init_4 (q := 5) rfl rfl ?_
  refine x_iload_n hC dX13_init_5 (q := 6) rfl rfl ?_
  refine x_putF hC hnm (n := n) xff_X13_7_10 xd_10 hd dX13_init_6 (q := 9) rfl hn rfl (nar_c hc) (fit_c hc) ?_
  refine x_aloadr_n hC dX13_init_9 (q := 10) rfl rfl ?_
  refine x_aloadr_n hC dX13_init_10 (q := 11) rfl rfl ?_
  refine x_putF hC hnm (n := n) xff_X13_13_10 xd_10 hd dX13_init_11 (q := 14) rfl (xu_eq _ _ _) rfl rfl rfl ?_
  rw [xu_xu]
  refine x_aloadr_n hC dX13_init_14 (q := 15) rfl rfl ?_
  refine x_aloadr_n hC dX13_init_15 (q := 16) rfl rfl ?_
  refine x_putF hC hnm (n := n) xff_X13_17_10 xd_10 hd dX13_init_16 (q := 19) rfl (xu_eq _ _ _) rfl rfl rfl ?_
  rw [xu_xu]
  exact x_vret hC hr dX13_init_19 (Nat.le_of_ble_eq_true rfl) (Nat.le_of_ble_eq_true rfl) ⟨rfl, rfl⟩

set_option maxHeartbeats 4000000 in
set_option maxRecDepth 100000 in
theorem m_X16_init {l : Launch} {s0 : State} {D : va_G} (h0 : x0 l s0 D) (g : xG) {n : xN} {a a1 a2 a3 : Nat} (hd : Nat.blt n.1 1000 = true) (hn : g n = some (a, xO 13 [.null, .null, .null])) : xMet l s0 D yX16_init cX16_init 4 none (xr 1 0 0 20) [.ref a, .ref a1, .ref a2, .ref a3] g (fun r g1 => r = none ∧ g1 = xu g n (some (a, xO 13 [.ref a1, .ref a2, .ref a3]))) := by
  refine xMet.of h0 (by decide +kernel) rfl ?_
  intro zp ze zs zm za zb zf zc hC hr hnm
  refine x_aloadr_n hC dX16_init_0 (q := 1) rfl rfl ?_
  refine x_objInit hC q959 q124 q125 dX16_init_1 (q := 4) rfl (by decide) (Nat.le_of_ble_eq_true rfl) (Nat.le_of_ble_eq_true rfl) ?_
  refine x_aloadr_n hC dX16_init_4 (q := 5) rfl rfl ?_
  refine x_aloadr_n hC dX16_init_5 (q := 6) rfl rfl ?_
  refine x_putF hC hnm (n := n) xff_X16_7_13 xd_13 hd dX16_init_6 (q := 9) rfl hn rfl rfl rfl ?_
  refine x_aloadr_n hC dX16_init_9 (q := 10) rfl rfl ?_
  refine x_aloadr_n hC dX16_init_10 (q := 11) rfl rfl ?_
  refine x_putF hC hnm (n := n) xff_X16_13_13 xd_13 hd dX16_init_11 (q := 14) rfl (xu_eq _ _ _) rfl rfl rfl ?_
  rw [xu_xu]
  refine x_aloadr_n hC dX16_init_14 (q := 15) rfl rfl ?_
  refine x_aloadr_n hC dX16_init_15 (q := 16) rfl rfl ?_
  refine x_putF hC hnm (n := n) xff_X16_17_13 xd_13 hd dX16_init_16 (q := 19) rfl (xu_eq _ _ _) rfl rfl rfl ?_
  rw [xu_xu]
  exact x_vret hC hr dX16_init_19 (Nat.le_of_ble_eq_true rfl) (Nat.le_of_ble_eq_true rfl) ⟨rfl, rfl⟩

theorem xE0.up {s0 : State} {g : xG} {d0 : Nat} (h : xE0 s0 g d0) {n : xN} (hn : Nat.blt n.1 1000 = true) (x : Option (Nat × xE)) : xE0 s0 (xu g n x) d0 := by
  obtain ⟨h1, f, h2⟩ := h
  exact ⟨h1, f, by rw [xu_ne (fun q => by rw [← q] at hn; exact absurd hn (by decide))]; exact h2⟩
theorem blt_ne {n : xN} (hn : Nat.blt n.1 1000 = true) : n ≠ (1000, 0) := fun q => by rw [q] at hn; exact absurd hn (by decide)

set_option maxHeartbeats 4000000 in
set_option maxRecDepth 100000 in
theorem m_X15_init {l : Launch} {s0 : State} {D : va_G} (h0 : x0 l s0 D) (g : xG) {n nl nd n2 : xN} {a d0 v : Nat} {x : xE} {all : Int32} (hall : all = 0 ∨ all = 1) (hd : Nat.blt n.1 1000 = true) (hdl : Nat.blt nl.1 1000 = true) (hdd : Nat.blt nd.1 1000 = true) (hnl : g nl = none) (hnd : g nd = none) (hld : nl ≠ nd) (hz : xE0 s0 g d0) (hn : g n = some (a, xO 12 [.int 0, .null])) (hd3 : Nat.blt n2.1 1000 = true) (hn2 : n2 ≠ n) (he : g n2 = some (v, x)) (hx : Cond.castable (xnm x) "java/lang/Object" ∈ lw_tbl) : xMet l s0 D yX15_init cX15_init 3 none (xr 11 3 20 400) [.ref a, .int all, .ref v] g (fun r g1 => ∃ la d1, r = none ∧ g1 = xu (xu (xu g nd (some (d1, xAr (.object "java/lang/Object") 10 (va_up (fun _ => none) 0 (some v))))) nl (some (la, xO 21 [.int 1, .ref d1, .int 1]))) n (some (a, xO 12 [.int all, .ref la]))) := by
  refine xMet.of h0 (by decide +kernel) rfl ?_
  intro zp ze zs zm za zb zf zc hC hr hnm
  have h1 : n ≠ nl := fun q => by rw [q, hnl] at hn; cases hn
  have h2 : n ≠ nd := fun q => by rw [q, hnd] at hn; cases hn
  have h3 : n2 ≠ nl := fun q => by rw [q, hnl] at he; cases he
  have h4 : n2 ≠ nd := fun q => by rw [q, hnd] at he; cases he
  refine x_aloadr_n hC dX15_init_0 (q := 1) rfl rfl ?_
  refine x_objInit hC q941 q124 q125 dX15_init_1 (q := 4) rfl (by decide) (Nat.le_of_ble_eq_true rfl) (Nat.le_of_ble_eq_true rfl) ?_
  refine x_aloadr_n hC dX15_init_4 (q := 5) rfl rfl ?_
  refine x_new hC (fs := [.int 0, .null, .int 0]) nl xc_21 q942 q133 q83 dX15_init_5 (q := 8) rfl hdl hnl (fun j hj => by match j, hj with | 0, _ => rfl | 1, _ => rfl | 2, _ => rfl | j + 3, h => exact absurd h (by omega)) (Nat.le_of_ble_eq_true rfl) (Nat.le_of_ble_eq_true rfl) (fun a_5 => ?_)
  refine x_dup hC dX15_init_8 (q := 9) rfl rfl ?_
  refine x_callI hC xv_X15_9 dX15_init_9 (q := 12) rfl rfl (m_J3_init h0 _ (n := nl) hdl (xu_eq _ _ _) (hz.up hdl _)) rfl (Nat.le_of_ble_eq_true rfl) ⟨(Nat.le_of_ble_eq_true rfl), (Nat.le_of_ble_eq_true rfl)⟩ ⟨(Nat.le_of_ble_eq_true rfl), (Nat.le_of_ble_eq_true rfl)⟩ (fun v g1 hp => ?_)
  rw [xu_xu] at hp
  obtain ⟨rfl, hg1⟩ := hp
  replace hg1 := hg1.symm
  subst hg1
  refine x_putF hC hnm (n := n) xff_X15_10_12 xd_12 hd dX15_init_12 (q := 15) rfl (by rw [xu_ne h1]; exact hn) rfl rfl rfl ?_
  refine x_aloadr_n hC dX15_init_15 (q := 16) rfl rfl ?_
  refine x_iload_n hC dX15_init_16 (q := 17) rfl rfl ?_
  refine x_putF hC hnm (n := n) xff_X15_16_12 xd_12 hd dX15_init_17 (q := 20) rfl (xu_eq _ _ _) rfl (by rcases hall with rfl | rfl <;> rfl) (by rcases hall with rfl | rfl <;> rfl) ?_
  rw [xu_xu]
  refine x_aloadr_n hC dX15_init_20 (q := 21) rfl rfl ?_
  refine x_get hC xf_X15_10_12 dX15_init_21 (q := 24) rfl (n := n) (xu_eq _ _ _) rfl ?_
  refine x_aloadr_n hC dX15_init_24 (q := 25) rfl rfl ?_
  refine x_callV hC xv_X15_20 dX15_init_25 (q := 28) rfl rfl (m_J3_add_B h0 _ (n := nl) (nd := nd) (n2 := n2) hdl hdd hd3 hld h3 h4 (blt_ne hdl) (by rw [xu_ne h1.symm, xu_eq]) (by rw [xu_ne h2.symm, xu_ne hld.symm]; exact hnd) ((hz.up hdl _).up hd _) (by rw [xu_ne hn2, xu_ne h3]; exact he) hx) (nn := nl) (by rw [xu_ne h1.symm, xu_eq]) rfl rfl (Nat.le_of_ble_eq_true rfl) ⟨(Nat.le_of_ble_eq_true rfl), (Nat.le_of_ble_eq_true rfl)⟩ ⟨(Nat.le_of_ble_eq_true rfl), (Nat.le_of_ble_eq_true rfl)⟩ (fun v g1 hp => ?_)
  obtain ⟨d1, rfl, hg1⟩ := hp
  replace hg1 := hg1.symm
  subst hg1
  refine x_pop hC dX15_init_28 (q := 29) rfl rfl ?_
  exact x_vret hC hr dX15_init_29 (Nat.le_of_ble_eq_true rfl) (Nat.le_of_ble_eq_true rfl) ⟨a_5, d1, rfl, (by
    funext k
    unfold xu
    by_cases e1 : k = n
    · subst e1; simp [h1, h2]
    · by_cases e2 : k = nl
      · subst e2; simp [e1, hld]
      · by_cases e3 : k = nd
        · subst e3; simp [e1, e2]
        · simp [e1, e2, e3])⟩

set_option maxHeartbeats 4000000 in
set_option maxRecDepth 100000 in
theorem m_X18_init {l : Launch} {s0 : State} {D : va_G} (h0 : x0 l s0 D) (g : xG) {n nl ns nv : xN} {a d0 : Nat} (hd : Nat.blt n.1 1000 = true) (hdl : Nat.blt nl.1 1000 = true) (hds : Nat.blt ns.1 1000 = true) (hdv : Nat.blt nv.1 1000 = true) (hnl : g nl = none) (hns : g ns = none) (hnv : g nv = none) (hls : nl ≠ ns) (hlv : nl ≠ nv) (hsv : ns ≠ nv) (hz : xE0 s0 g d0) (hn : g n = some (a, xO 15 [.null, .null])) : xMet l s0 D yX18_init cX18_init 1 none (xr 4 3 23 120) [.ref a] g (fun r g1 => ∃ la sb v1, r = none ∧ g1 = xu (xu (xu (xu g nv (some (v1, xAi .byte 16 (fun _ => 0)))) ns (some (sb, xO 22 [.ref v1, .int 0, .int 0, .int 0]))) nl (some (la, xO 21 [.int 0, .ref d0, .int 0]))) n (some (a, xO 15 [.ref la, .ref sb]))) := by
  refine xMet.of h0 (by decide +kernel) rfl ?_
  intro zp ze zs zm za zb zf zc hC hr hnm
  have h1 : n ≠ nl := fun q => by rw [q, hnl] at hn; cases hn
  have h2 : n ≠ ns := fun q => by rw [q, hns] at hn; cases hn
  have h3 : n ≠ nv := fun q => by rw [q, hnv] at hn; cases hn
  refine x_aloadr_n hC dX18_init_0 (q := 1) rfl rfl ?_
  refine x_objInit hC q997 q124 q125 dX18_init_1 (q := 4) rfl (by decide) (Nat.le_of_ble_eq_true rfl) (Nat.le_of_ble_eq_true rfl) ?_
  refine x_aloadr_n hC dX18_init_4 (q := 5) rfl rfl ?_
  refine x_new hC (fs := [.int 0, .null, .int 0]) nl xc_21 q998 q133 q83 dX18_init_5 (q := 8) rfl hdl hnl (fun j hj => by match j, hj with | 0, _ => rfl | 1, _ => rfl | 2, _ => rfl | j + 3, h => exact absurd h (by omega)) (Nat.le_of_ble_eq_true rfl) (Nat.le_of_ble_eq_true rfl) (fun a_5 => ?_)
  refine x_dup hC dX18_init_8 (q := 9) rfl rfl ?_
  refine x_callI hC xv_X18_9 dX18_init_9 (q := 12) rfl rfl (m_J3_init h0 _ (n := nl) hdl (xu_eq _ _ _) (hz.up hdl _)) rfl (Nat.le_of_ble_eq_true rfl) ⟨(Nat.le_of_ble_eq_true rfl), (Nat.le_of_ble_eq_true rfl)⟩ ⟨(Nat.le_of_ble_eq_true rfl), (Nat.le_of_ble_eq_true rfl)⟩ (fun v g1 hp => ?_)
  rw [xu_xu] at hp
  obtain ⟨rfl, hg1⟩ := hp
  replace hg1 := hg1.symm
  subst hg1
  refine x_putF hC hnm (n := n) xff_X18_10_15 xd_15 hd dX18_init_12 (q := 15) rfl (by rw [xu_ne h1]; exact hn) rfl rfl rfl ?_
  refine x_aloadr_n hC dX18_init_15 (q := 16) rfl rfl ?_
  refine x_new hC (fs := [.null, .int 0, .int 0, .int 0]) ns xc_22 q1000 q1001 q86 dX18_init_16 (q := 19) rfl hds (by rw [xu_ne h2.symm, xu_ne hls.symm]; exact hns) (fun j hj => by match j, hj with | 0, _ => rfl | 1, _ => rfl | 2, _ => rfl | 3, _ => rfl | j + 4, h => exact absurd h (by omega)) (Nat.le_of_ble_eq_true rfl) (Nat.le_of_ble_eq_true rfl) (fun a_16 => ?_)
  refine x_dup hC dX18_init_19 (q := 20) rfl rfl ?_
  refine x_callI hC xv_X18_18 dX18_init_20 (q := 23) rfl rfl (m_J5_init h0 _ (n := ns) (nv := nv) hds hdv (xu_eq _ _ _) (by rw [xu_ne hsv.symm, xu_ne h3.symm, xu_ne hlv.symm]; exact hnv)) rfl (Nat.le_of_ble_eq_true rfl) ⟨(Nat.le_of_ble_eq_true rfl), (Nat.le_of_ble_eq_true rfl)⟩ ⟨(Nat.le_of_ble_eq_true rfl), (Nat.le_of_ble_eq_true rfl)⟩ (fun v g1 hp => ?_)
  obtain ⟨v1, rfl, hg1⟩ := hp
  replace hg1 := hg1.symm
  subst hg1
  refine x_putF hC hnm (n := n) xff_X18_19_15 xd_15 hd dX18_init_23 (q := 26) rfl (by rw [xu_ne h2, xu_ne h3, xu_ne h2, xu_eq]) rfl rfl rfl ?_
  exact x_vret hC hr dX18_init_26 (Nat.le_of_ble_eq_true rfl) (Nat.le_of_ble_eq_true rfl) ⟨a_5, a_16, v1, rfl, (by
    funext k
    unfold xu
    by_cases e1 : k = n
    · subst e1; simp
    · by_cases e2 : k = nl
      · subst e2; simp [e1, hls, hlv]
      · by_cases e3 : k = ns
        · subst e3; simp [e1, e2]
        · by_cases e4 : k = nv
          · subst e4; simp [e1, e2, e3]
          · simp [e1, e2, e3, e4])⟩
