/-! StringBuilder.toString -/
theorem arrV_ext {cA : ClassId} {N : Nat} {f h : Nat → Value} (e : ∀ j, j < N → f j = h j) : arrV cA N f = arrV cA N h := by
  unfold arrV
  rw [show (fun j : Fin N => f j.val) = (fun j : Fin N => h j.val) from funext fun j => e j.val j.isLt]
section XEX
variable {p : Program} {l : Launch} {e : Env} {R : Room} {s : State} {m : MethodId} {args : Array Value} {below : List Frame} {meth : Method} {c : Code} {s0 : State} {D : va_G} {Q : State → Prop} {cells slots : Nat} {g : xG} {pc : Nat} {lv : xL} {st : List Value}
/-- of an array's values those count that it has -/
theorem x_ext {n : xN} {a N : Nat} {ty : FieldType} {f h : Nat → Int32} (hd : Nat.blt n.1 1000 = true) (hg : g n = some (a, xAi ty N f)) (he : ∀ j, j < N → f j = h j) (k : XW p l e R s m args below meth c s0 D Q cells slots (xu g n (some (a, xAi ty N h))) pc lv st) : XW p l e R s m args below meth c s0 D Q cells slots g pc lv st := by
  intro H locs ls hm hI hS hl
  have hd := Nat.le_of_ble_eq_true hd
  obtain ⟨-, cA, h1, h2, h3⟩ := hI.at hd hg
  refine k H locs ls hm (hI.put hd hg rfl (fun _ _ => rfl) ⟨cA, h1, h2, h3.trans (congrArg some ?_)⟩) hS hl
  rw [vp_cell_i, vp_cell_i]
  exact arrV_ext fun j hj => by rw [he j hj]
end XEX

set_option maxHeartbeats 4000000 in
set_option maxRecDepth 100000 in
theorem m_J4_getValue {l : Launch} {s0 : State} {D : va_G} (h0 : x0 l s0 D) (g : xG) {n : xN} {b v : Nat} {ml : Int32} {w : List Nat} (hs : g n = some (b, xO 22 [.ref v, .int 0, .int ml, .int (nI w.length)])) : xMet l s0 D yJ4_getValue cJ4_getValue 1 (some (.array .byte)) (xr 0 0 0 0) [.ref b] g (fun r g1 => r = some (.ref v) ∧ g1 = g) := by
  refine xMet.of h0 (by decide +kernel) rfl ?_
  intro zp ze zs zm za zb zf zc hC hr hnm
  refine x_aloadr_n hC dJ4_getValue_0 (q := 1) rfl rfl ?_
  refine x_get hC xf_J4_15_22 dJ4_getValue_1 (q := 4) rfl (n := n) hs rfl ?_
  exact x_aret hC hr (Or.inr ⟨_, rfl⟩) (Or.inr ⟨_, rfl⟩) dJ4_getValue_4 (Nat.le_of_ble_eq_true rfl) (Nat.le_of_ble_eq_true rfl) ⟨rfl, rfl⟩

set_option maxHeartbeats 4000000 in
set_option maxRecDepth 100000 in
theorem m_J4_length {l : Launch} {s0 : State} {D : va_G} (h0 : x0 l s0 D) (g : xG) {n : xN} {b v : Nat} {ml : Int32} {w : List Nat} (hs : g n = some (b, xO 22 [.ref v, .int 0, .int ml, .int (nI w.length)])) : xMet l s0 D yJ4_length cJ4_length 1 (some .int) (xr 0 0 0 0) [.ref b] g (fun r g1 => r = some (.int (nI w.length)) ∧ g1 = g) := by
  refine xMet.of h0 (by decide +kernel) rfl ?_
  intro zp ze zs zm za zb zf zc hC hr hnm
  refine x_aloadr_n hC dJ4_length_0 (q := 1) rfl rfl ?_
  refine x_get hC xf_J4_79_22 dJ4_length_1 (q := 4) rfl (n := n) hs rfl ?_
  exact x_iret hC hr dJ4_length_4 (Nat.le_of_ble_eq_true rfl) (Nat.le_of_ble_eq_true rfl) ⟨rfl, rfl⟩

set_option maxHeartbeats 4000000 in
set_option maxRecDepth 100000 in
theorem m_J5_length {l : Launch} {s0 : State} {D : va_G} (h0 : x0 l s0 D) (g : xG) {n : xN} {b v : Nat} {ml : Int32} {w : List Nat} (hs : g n = some (b, xO 22 [.ref v, .int 0, .int ml, .int (nI w.length)])) : xMet l s0 D yJ5_length cJ5_length 1 (some .int) (xr 1 0 0 25) [.ref b] g (fun r g1 => r = some (.int (nI w.length)) ∧ g1 = g) := by
  refine xMet.of h0 (by decide +kernel) rfl ?_
  intro zp ze zs zm za zb zf zc hC hr hnm
  refine x_aloadr_n hC dJ5_length_0 (q := 1) rfl rfl ?_
  refine x_callSU hC xv_J5_343 dJ5_length_1 (q := 4) rfl rfl (m_J4_length h0 g hs) (nn := n) hs rfl rfl (Nat.le_of_ble_eq_true rfl) ⟨(Nat.le_of_ble_eq_true rfl), (Nat.le_of_ble_eq_true rfl)⟩ ⟨(Nat.le_of_ble_eq_true rfl), (Nat.le_of_ble_eq_true rfl)⟩ (fun v g1 hp => ?_)
  obtain ⟨rfl, hg1⟩ := hp
  replace hg1 := hg1.symm
  subst hg1
  exact x_iret hC hr dJ5_length_4 (Nat.le_of_ble_eq_true rfl) (Nat.le_of_ble_eq_true rfl) ⟨rfl, rfl⟩

set_option maxHeartbeats 4000000 in
set_option maxRecDepth 100000 in
theorem m_J9_checkLength {l : Launch} {s0 : State} {D : va_G} (h0 : x0 l s0 D) (g : xG) {o k : Nat} (h : o ≤ k) (hk : k < 2 ^ 31) : xMet l s0 D yJ9_checkLength cJ9_checkLength 2 none (xr 0 0 0 0) [.int (nI o), .int (nI k)] g (fun r g1 => r = none ∧ g1 = g) := by
  refine xMet.of h0 (by decide +kernel) rfl ?_
  intro zp ze zs zm za zb zf zc hC hr hnm
  refine x_iload_n hC dJ9_checkLength_0 (q := 1) rfl rfl ?_
  refine x_iload_n hC dJ9_checkLength_1 (q := 2) rfl rfl ?_
  refine x_icmp_ge hC dJ9_checkLength_2 (q := 5) rfl (tgt := 37) rfl (fun h2 => ?_) (fun h2 => ?_)
  · exact x_vret hC hr dJ9_checkLength_37 (Nat.le_of_ble_eq_true rfl) (Nat.le_of_ble_eq_true rfl) ⟨rfl, rfl⟩
  · exact absurd (nI_le h hk) h2

set_option maxHeartbeats 4000000 in
set_option maxRecDepth 100000 in
theorem m_J9_copyOfRangeByte {l : Launch} {s0 : State} {D : va_G} (h0 : x0 l s0 D) (g : xG) {nv : xN} {v cap : Nat} {f : Nat → Int32} {w : List Nat} (hd2 : Nat.blt nv.1 1000 = true) (hv : g nv = some (v, xAi .byte cap f)) (hV : sV f cap w) {kv : xN} (hdk : Nat.blt kv.1 1000 = true) (hkv : g kv = none) (hl : w.length < cap) : xMet l s0 D yJ9_copyOfRangeByte cJ9_copyOfRangeByte 5 (some (.array .byte)) (xr 1 1 4096 50) [.ref v, .int 0, .int (nI w.length)] g (fun r g1 => ∃ d1, r = some (.ref d1) ∧ g1 = xu g kv (some (d1, xAi .byte w.length (sL w)))) := by
  refine xMet.of h0 (by decide +kernel) rfl ?_
  intro zp ze zs zm za zb zf zc hC hr hnm
  refine x_iload_n hC dJ9_copyOfRangeByte_0 (q := 1) rfl rfl ?_
  refine x_iload_n hC dJ9_copyOfRangeByte_1 (q := 2) rfl rfl ?_
  refine x_callS hC xv_J9_343 dJ9_copyOfRangeByte_2 (q := 5) rfl rfl (m_J9_checkLength h0 g (o := 0) (Nat.zero_le _) (by have := hV.2.2.1; omega)) rfl (Nat.le_of_ble_eq_true rfl) ⟨(Nat.le_of_ble_eq_true rfl), (Nat.le_of_ble_eq_true rfl)⟩ ⟨(Nat.le_of_ble_eq_true rfl), (Nat.le_of_ble_eq_true rfl)⟩ (fun v g1 hp => ?_)
  obtain ⟨rfl, hg1⟩ := hp
  replace hg1 := hg1.symm
  subst hg1
  refine x_iload_n hC dJ9_copyOfRangeByte_5 (q := 6) rfl rfl ?_
  refine x_iload_n hC dJ9_copyOfRangeByte_6 (q := 7) rfl rfl ?_
  refine x_isub hC dJ9_copyOfRangeByte_7 (q := 8) rfl ?_
  have hcap := hV.2.2.1
  rw [show nI w.length - 0 = nI w.length from Int32.sub_zero _]
  refine x_istore_n hC dJ9_copyOfRangeByte_8 (q := 9) rfl rfl ?_
  refine x_iload_n hC dJ9_copyOfRangeByte_9 (q := 10) rfl rfl ?_
  refine x_newa hC (at0 := .byte) (N := w.length) (x := (w.length, .inl (fun _ => 0))) kv q497 dJ9_copyOfRangeByte_10 (q := 12) rfl hdk hkv rfl (by omega) (fun _ => rfl) (Nat.le_of_ble_eq_true rfl) (by dsimp only; omega) (fun a_10 => ?_)
  refine x_astorer hC dJ9_copyOfRangeByte_12 (q := 14) rfl rfl ?_
  have hne : nv ≠ kv := fun q => by rw [q, hkv] at hv; cases hv
  refine x_aloadr_n hC dJ9_copyOfRangeByte_14 (q := 15) rfl rfl ?_
  refine x_iload_n hC dJ9_copyOfRangeByte_15 (q := 16) rfl rfl ?_
  refine x_aloadr hC dJ9_copyOfRangeByte_16 (q := 18) rfl rfl ?_
  refine x_iconst hC dJ9_copyOfRangeByte_18 (q := 19) rfl (v := (0)) (by decide) ?_
  refine x_aloadr_n hC dJ9_copyOfRangeByte_19 (q := 20) rfl rfl ?_
  refine x_alen hC dJ9_copyOfRangeByte_20 (q := 21) rfl (n := nv) (by rw [xu_ne hne]; exact hv) ?_
  refine x_iload_n hC dJ9_copyOfRangeByte_21 (q := 22) rfl rfl ?_
  refine x_isub hC dJ9_copyOfRangeByte_22 (q := 23) rfl ?_
  refine x_iload_n hC dJ9_copyOfRangeByte_23 (q := 24) rfl rfl ?_
  rw [show nI cap - 0 = nI cap from Int32.sub_zero _]
  refine x_callS hC xv_J9_304 dJ9_copyOfRangeByte_24 (q := 27) rfl rfl (m_J0_min h0 _ _ _) rfl (Nat.le_of_ble_eq_true rfl) ⟨(Nat.le_of_ble_eq_true rfl), (Nat.le_of_ble_eq_true rfl)⟩ ⟨(Nat.le_of_ble_eq_true rfl), (by dsimp only; omega)⟩ (fun v g1 hp => ?_)
  rw [if_pos (nI_lt hl (by omega))] at hp
  obtain ⟨rfl, hg1⟩ := hp
  replace hg1 := hg1.symm
  subst hg1
  refine x_copyI hC q744 dJ9_copyOfRangeByte_27 (q := 30) rfl rfl (n0 := nv) (n1 := kv) (i := 0) (j := 0) (k := w.length) (by rw [xu_ne hne]; exact hv) hdk (xu_eq _ _ _) rfl rfl rfl (by omega) (by omega) (by omega) (by omega) (fun t ht => by rw [Nat.zero_add]; exact hV.2.2.2 t (by omega)) (Nat.le_of_ble_eq_true rfl) (Nat.le_of_ble_eq_true rfl) ?_
  refine x_ext (h := sL w) hdk (xu_eq _ _ _) (fun j hj => by
    unfold va_cpy
    rw [if_pos (by omega), show 0 + (j - 0) = j by omega]
    exact hV.1 j hj) ?_
  rw [xu_xu, xu_xu]
  refine x_aloadr hC dJ9_copyOfRangeByte_30 (q := 32) rfl rfl ?_
  exact x_aret hC hr (Or.inr ⟨_, rfl⟩) (Or.inr ⟨_, rfl⟩) dJ9_copyOfRangeByte_32 (Nat.le_of_ble_eq_true rfl) (by dsimp only; omega) ⟨_, rfl, rfl⟩

set_option maxHeartbeats 4000000 in
set_option maxRecDepth 100000 in
theorem m_J9_copyOfRange {l : Launch} {s0 : State} {D : va_G} (h0 : x0 l s0 D) (g : xG) {nv : xN} {v cap : Nat} {f : Nat → Int32} {w : List Nat} (hd2 : Nat.blt nv.1 1000 = true) (hv : g nv = some (v, xAi .byte cap f)) (hV : sV f cap w) {kv : xN} (hdk : Nat.blt kv.1 1000 = true) (hkv : g kv = none) : xMet l s0 D yJ9_copyOfRange cJ9_copyOfRange 3 (some (.array .byte)) (xr 2 1 4096 80) [.ref v, .int 0, .int (nI w.length)] g (fun r g1 => ∃ d1, r = some (.ref d1) ∧ g1 = xu g kv (some (d1, xAi .byte w.length (sL w)))) := by
  refine xMet.of h0 (by decide +kernel) rfl ?_
  intro zp ze zs zm za zb zf zc hC hr hnm
  have hcap := hV.2.2.1
  refine x_iload_n hC dJ9_copyOfRange_0 (q := 1) rfl rfl ?_
  refine x_if_ne hC dJ9_copyOfRange_1 (q := 4) rfl (tgt := 10) rfl (fun h1 => ?_) (fun h1 => ?_)
  · exact absurd rfl h1
  refine x_iload_n hC dJ9_copyOfRange_4 (q := 5) rfl rfl ?_
  refine x_aloadr_n hC dJ9_copyOfRange_5 (q := 6) rfl rfl ?_
  refine x_alen hC dJ9_copyOfRange_6 (q := 7) rfl (n := nv) hv ?_
  refine x_icmp_eq hC dJ9_copyOfRange_7 (q := 10) rfl (tgt := 17) rfl (fun h7 => ?_) (fun h7 => ?_)
  · have hl : w.length = cap := by
      dsimp only at h7
      have := (nI_eq (by have := hV.2.1; omega) (by omega)).mp h7
      exact this
    refine x_aloadr_n hC dJ9_copyOfRange_17 (q := 18) rfl rfl ?_
    refine x_cloneB hC kv q1055 dJ9_copyOfRange_18 (q := 21) rfl hd2 hv hdk hkv hV.2.2.2 (Nat.le_of_ble_eq_true rfl) (Nat.le_of_ble_eq_true rfl) (Nat.le_of_ble_eq_true rfl) (by dsimp only; omega) (fun a_18 => ?_)
    refine x_ext (h := sL w) hdk (xu_eq _ _ _) (fun j hj => hV.1 j (by omega)) ?_
    rw [xu_xu, ← hl]
    refine x_castA hC q1061 (by dsimp only; decide) dJ9_copyOfRange_21 (q := 24) rfl (n := kv) hdk (xu_eq _ _ _) ?_
    exact x_aret hC hr (Or.inr ⟨_, rfl⟩) (Or.inr ⟨_, rfl⟩) dJ9_copyOfRange_24 (Nat.le_of_ble_eq_true rfl) (by dsimp only; omega) ⟨_, rfl, rfl⟩
  have hl : w.length < cap := Nat.lt_of_le_of_ne hV.2.1 (fun q => h7 (by rw [q]))
  refine x_aloadr_n hC dJ9_copyOfRange_10 (q := 11) rfl rfl ?_
  refine x_iload_n hC dJ9_copyOfRange_11 (q := 12) rfl rfl ?_
  refine x_iload_n hC dJ9_copyOfRange_12 (q := 13) rfl rfl ?_
  refine x_callS hC xv_J9_339 dJ9_copyOfRange_13 (q := 16) rfl rfl (m_J9_copyOfRangeByte h0 g hd2 hv hV hdk hkv hl) rfl (Nat.le_of_ble_eq_true rfl) ⟨(Nat.le_of_ble_eq_true rfl), (Nat.le_of_ble_eq_true rfl)⟩ ⟨(Nat.le_of_ble_eq_true rfl), (Nat.le_of_ble_eq_true rfl)⟩ (fun v g1 hp => ?_)
  obtain ⟨d1, rfl, hg1⟩ := hp
  replace hg1 := hg1.symm
  subst hg1
  exact x_aret hC hr (Or.inr ⟨_, rfl⟩) (Or.inr ⟨_, rfl⟩) dJ9_copyOfRange_16 (Nat.le_of_ble_eq_true rfl) (Nat.le_of_ble_eq_true rfl) ⟨_, rfl, rfl⟩

set_option maxHeartbeats 4000000 in
set_option maxRecDepth 100000 in
theorem m_J6_init_4 {l : Launch} {s0 : State} {D : va_G} (h0 : x0 l s0 D) (g : xG) {n nv : xN} {b v cap : Nat} {ml : Int32} {f : Nat → Int32} {w : List Nat} (hs : g n = some (b, xO 22 [.ref v, .int 0, .int ml, .int (nI w.length)])) (hd2 : Nat.blt nv.1 1000 = true) (hv : g nv = some (v, xAi .byte cap f)) (hV : sV f cap w) {kv : xN} (hdk : Nat.blt kv.1 1000 = true) (hkv : g kv = none) {k : xN} {a : Nat} (hd3 : Nat.blt k.1 1000 = true) (hk : g k = some (a, xO 23 [.null, .int 0, .int 0, .int 0])) : xMet l s0 D yJ6_init_4 cJ6_init_4 5 none (xr 3 1 4096 120) [.ref a, .ref b, .null] g (fun r g1 => ∃ d1, r = none ∧ g1 = xu (xu g kv (some (d1, xAi .byte w.length (sL w)))) k (some (a, xO 23 [.ref d1, .int 0, .int 0, .int 0]))) := by
  refine xMet.of h0 (by decide +kernel) rfl ?_
  intro zp ze zs zm za zb zf zc hC hr hnm
  have hne : k ≠ kv := fun q => by rw [q, hkv] at hk; cases hk
  have hnk : nv ≠ k := fun q => by rw [q, hk] at hv; cases hv
  refine x_aloadr_n hC dJ6_init_4_0 (q := 1) rfl rfl ?_
  refine x_objInit hC q440 q124 q125 dJ6_init_4_1 (q := 4) rfl (by decide) (Nat.le_of_ble_eq_true rfl) (Nat.le_of_ble_eq_true rfl) ?_
  refine x_aloadr_n hC dJ6_init_4_4 (q := 5) rfl rfl ?_
  refine x_callU hC xv_J6_552 dJ6_init_4_5 (q := 8) rfl rfl (m_J4_getValue h0 g hs) (nn := n) hs rfl rfl (Nat.le_of_ble_eq_true rfl) ⟨(Nat.le_of_ble_eq_true rfl), (Nat.le_of_ble_eq_true rfl)⟩ ⟨(Nat.le_of_ble_eq_true rfl), (Nat.le_of_ble_eq_true rfl)⟩ (fun v g1 hp => ?_)
  obtain ⟨rfl, hg1⟩ := hp
  replace hg1 := hg1.symm
  subst hg1
  refine x_astorer_n hC dJ6_init_4_8 (q := 9) rfl rfl ?_
  refine x_aloadr_n hC dJ6_init_4_9 (q := 10) rfl rfl ?_
  refine x_callO hC xv_J6_549 dJ6_init_4_10 (q := 13) rfl rfl (m_J5_length h0 g hs) (nn := n) hs rfl rfl (Nat.le_of_ble_eq_true rfl) ⟨(Nat.le_of_ble_eq_true rfl), (Nat.le_of_ble_eq_true rfl)⟩ ⟨(Nat.le_of_ble_eq_true rfl), (Nat.le_of_ble_eq_true rfl)⟩ (fun v g1 hp => ?_)
  obtain ⟨rfl, hg1⟩ := hp
  replace hg1 := hg1.symm
  subst hg1
  refine x_istore hC dJ6_init_4_13 (q := 15) rfl rfl ?_
  refine x_aloadr_n hC dJ6_init_4_15 (q := 16) rfl rfl ?_
  refine x_callU hC xv_J6_1047 dJ6_init_4_16 (q := 19) rfl rfl (m_J4_isLatin1 h0 g hs) (nn := n) hs rfl rfl (Nat.le_of_ble_eq_true rfl) ⟨(Nat.le_of_ble_eq_true rfl), (Nat.le_of_ble_eq_true rfl)⟩ ⟨(Nat.le_of_ble_eq_true rfl), (Nat.le_of_ble_eq_true rfl)⟩ (fun v g1 hp => ?_)
  obtain ⟨rfl, hg1⟩ := hp
  replace hg1 := hg1.symm
  subst hg1
  refine x_if_eq hC dJ6_init_4_19 (q := 22) rfl (tgt := 41) rfl (fun h19 => ?_) (fun h19 => ?_)
  · exact absurd h19 (by decide)
  refine x_aloadr_n hC dJ6_init_4_22 (q := 23) rfl rfl ?_
  refine x_iconst hC dJ6_init_4_23 (q := 24) rfl (v := (0)) (by decide) ?_
  refine x_putF hC hnm (n := k) xff_J6_15_23 xd_23 hd3 dJ6_init_4_24 (q := 27) rfl hk rfl rfl rfl ?_
  rw [show xu g k (some (a, .inr (23, [Value.null, .int 0, .int 0, .int 0].set 1 (.int 0)))) = g from xu_self hk]
  refine x_aloadr_n hC dJ6_init_4_27 (q := 28) rfl rfl ?_
  refine x_aloadr_n hC dJ6_init_4_28 (q := 29) rfl rfl ?_
  refine x_iconst hC dJ6_init_4_29 (q := 30) rfl (v := (0)) (by decide) ?_
  refine x_iload hC dJ6_init_4_30 (q := 32) rfl rfl ?_
  refine x_callS hC xv_J6_54 dJ6_init_4_32 (q := 35) rfl rfl (m_J9_copyOfRange h0 g hd2 hv hV hdk hkv) rfl (Nat.le_of_ble_eq_true rfl) ⟨(Nat.le_of_ble_eq_true rfl), (Nat.le_of_ble_eq_true rfl)⟩ ⟨(Nat.le_of_ble_eq_true rfl), (Nat.le_of_ble_eq_true rfl)⟩ (fun v g1 hp => ?_)
  obtain ⟨d1, rfl, hg1⟩ := hp
  replace hg1 := hg1.symm
  subst hg1
  refine x_putF hC hnm (n := k) xff_J6_9_23 xd_23 hd3 dJ6_init_4_35 (q := 38) rfl (by rw [xu_ne hne]; exact hk) rfl rfl rfl ?_
  refine x_goto hC dJ6_init_4_38 (tgt := 97) rfl ?_
  exact x_vret hC hr dJ6_init_4_97 (Nat.le_of_ble_eq_true rfl) (Nat.le_of_ble_eq_true rfl) ⟨d1, rfl, rfl⟩

set_option maxHeartbeats 4000000 in
set_option maxRecDepth 100000 in
theorem m_J6_init_3 {l : Launch} {s0 : State} {D : va_G} (h0 : x0 l s0 D) (g : xG) {n nv : xN} {b v cap : Nat} {ml : Int32} {f : Nat → Int32} {w : List Nat} (hs : g n = some (b, xO 22 [.ref v, .int 0, .int ml, .int (nI w.length)])) (hd2 : Nat.blt nv.1 1000 = true) (hv : g nv = some (v, xAi .byte cap f)) (hV : sV f cap w) {kv : xN} (hdk : Nat.blt kv.1 1000 = true) (hkv : g kv = none) {k : xN} {a : Nat} (hd3 : Nat.blt k.1 1000 = true) (hk : g k = some (a, xO 23 [.null, .int 0, .int 0, .int 0])) : xMet l s0 D yJ6_init_3 cJ6_init_3 2 none (xr 4 1 4096 150) [.ref a, .ref b] g (fun r g1 => ∃ d1, r = none ∧ g1 = xu (xu g kv (some (d1, xAi .byte w.length (sL w)))) k (some (a, xO 23 [.ref d1, .int 0, .int 0, .int 0]))) := by
  refine xMet.of h0 (by decide +kernel) rfl ?_
  intro zp ze zs zm za zb zf zc hC hr hnm
  refine x_aloadr_n hC dJ6_init_3_0 (q := 1) rfl rfl ?_
  refine x_aloadr_n hC dJ6_init_3_1 (q := 2) rfl rfl ?_
  refine x_null hC dJ6_init_3_2 (q := 3) rfl ?_
  refine x_callI hC xv_J6_489 dJ6_init_3_3 (q := 6) rfl rfl (m_J6_init_4 h0 g hs hd2 hv hV hdk hkv hd3 hk) rfl (Nat.le_of_ble_eq_true rfl) ⟨(Nat.le_of_ble_eq_true rfl), (Nat.le_of_ble_eq_true rfl)⟩ ⟨(Nat.le_of_ble_eq_true rfl), (Nat.le_of_ble_eq_true rfl)⟩ (fun v g1 hp => ?_)
  obtain ⟨d1, rfl, hg1⟩ := hp
  replace hg1 := hg1.symm
  subst hg1
  exact x_vret hC hr dJ6_init_3_6 (Nat.le_of_ble_eq_true rfl) (Nat.le_of_ble_eq_true rfl) ⟨d1, rfl, rfl⟩

set_option maxHeartbeats 4000000 in
set_option maxRecDepth 100000 in
theorem m_J5_toString {l : Launch} {s0 : State} {D : va_G} (h0 : x0 l s0 D) (g : xG) {n nv : xN} {b v cap : Nat} {ml : Int32} {f : Nat → Int32} {w : List Nat} (hs : g n = some (b, xO 22 [.ref v, .int 0, .int ml, .int (nI w.length)])) (hd2 : Nat.blt nv.1 1000 = true) (hv : g nv = some (v, xAi .byte cap f)) (hV : sV f cap w) {kv : xN} (hdk : Nat.blt kv.1 1000 = true) (hkv : g kv = none) {k : xN} (hd3 : Nat.blt k.1 1000 = true) (hk : g k = none) (hkk : k ≠ kv) : xMet l s0 D yJ5_toString cJ5_toString 1 (some (.object "java/lang/String")) (xr 5 2 4110 180) [.ref b] g (fun r g1 => ∃ a d1, r = some (.ref a) ∧ g1 = xu (xu g kv (some (d1, xAi .byte w.length (sL w)))) k (some (a, xO 23 [.ref d1, .int 0, .int 0, .int 0]))) := by
  refine xMet.of h0 (by decide +kernel) rfl ?_
  intro zp ze zs zm za zb zf zc hC hr hnm
  refine x_new hC (fs := [.null, .int 0, .int 0, .int 0]) k xc_23 q1256 q422 q87 dJ5_toString_0 (q := 3) rfl hd3 hk (fun j hj => by match j, hj with | 0, _ => rfl | 1, _ => rfl | 2, _ => rfl | 3, _ => rfl | j + 4, h => exact absurd h (by omega)) (Nat.le_of_ble_eq_true rfl) (Nat.le_of_ble_eq_true rfl) (fun a_0 => ?_)
  refine x_dup hC dJ5_toString_3 (q := 4) rfl rfl ?_
  refine x_aloadr_n hC dJ5_toString_4 (q := 5) rfl rfl ?_
  refine x_callI hC xv_J5_137 dJ5_toString_5 (q := 8) rfl rfl (m_J6_init_3 h0 _ (n := n) (nv := nv) (by rw [xu_ne (fun q => by rw [q, hk] at hs; cases hs)]; exact hs) hd2 (by rw [xu_ne (fun q => by rw [q, hk] at hv; cases hv)]; exact hv) hV hdk (by rw [xu_ne hkk.symm]; exact hkv) hd3 (xu_eq _ _ _)) rfl (Nat.le_of_ble_eq_true rfl) ⟨(Nat.le_of_ble_eq_true rfl), (Nat.le_of_ble_eq_true rfl)⟩ ⟨(Nat.le_of_ble_eq_true rfl), (Nat.le_of_ble_eq_true rfl)⟩ (fun v g1 hp => ?_)
  obtain ⟨d1, rfl, hg1⟩ := hp
  replace hg1 := hg1.symm
  subst hg1
  exact x_aret hC hr (Or.inl ⟨_, rfl⟩) (Or.inr ⟨_, rfl⟩) dJ5_toString_8 (Nat.le_of_ble_eq_true rfl) (Nat.le_of_ble_eq_true rfl) ⟨_, d1, rfl, by rw [xu3 hkk]⟩
