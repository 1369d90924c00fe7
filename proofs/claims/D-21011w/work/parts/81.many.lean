/-! many -/
/-- how many of the first -/
def kCn (b : Nat → Bool) : Nat → Nat
  | 0 => 0
  | j + 1 => if b j = true then kCn b j + 1 else kCn b j

set_option maxHeartbeats 4000000 in
set_option maxRecDepth 100000 in
theorem m_X2_many {l : Launch} {s0 : State} {D : va_G} (h0 : x0 l s0 D) (g : xG) {n : xN} {la d N : Nat} {mc : Int32} (hl : g n = some (la, xO 21 [.int mc, .ref d, .int (nI N)])) (hN : N < 1048576) {sh : Jvm.Lambda.Shape} {by0 : ByteArray} {fr lo aL : Nat} {b : Nat → Bool} {el : Nat → Nat} (hGt : ∀ j, j < N → xMet l s0 D yJ3_get cJ3_get 2 (some (.object "java/lang/Object")) (xr 2 0 0 43) [.ref la, .int (nI j)] g (fun r g1 => r = some (.ref (el j)) ∧ g1 = g)) (hsh : (⟨"KilnBench$Meant", "is", "(Ljava/lang/Object;)Z"⟩ : MethodName) = ⟨sh.iface, sh.name, sh.sam.toString⟩) (hL : ∀ j, j < N → xLamb l s0 D sh by0 2 .boolean (xr fr 0 0 lo) aL [.ref (el j)] g (fun r g1 => r = some (.int (if b j = true then 1 else 0)) ∧ g1 = g)) : xMet l s0 D yX2_many cX2_many 4 (some .int) (xr (fr + 4) 0 0 (lo + 80)) [.ref la, .ref aL] g (fun r g1 => r = some (.int (nI (kCn b N))) ∧ g1 = g) := by
  refine xMet.of h0 (by decide +kernel) rfl ?_
  intro p e s m args below meth c hC hr hnm
  refine x_iconst hC dX2_many_0 (q := 1) rfl (v := (0)) (by decide) ?_
  refine x_istore_n hC dX2_many_1 (q := 2) rfl rfl ?_
  refine x_iconst hC dX2_many_2 (q := 3) rfl (v := (0)) (by decide) ?_
  refine x_istore_n hC dX2_many_3 (q := 4) rfl rfl ?_
  refine x_loop (S := (fun i : Nat => ((0 : Nat), (0 : Nat), g, ([some (.ref la), some (.ref aL), some (.int (nI (kCn b i))), some (.int (nI i))] : xL), ([] : List Value)))) (Inv := fun i => i ≤ N) (μ := fun i => N - i) ?_ 0 (Nat.zero_le _)
  intro j hi ih
  dsimp only at hi ih ⊢
  refine x_iload_n hC dX2_many_4 (q := 5) rfl rfl ?_
  refine x_aloadr_n hC dX2_many_5 (q := 6) rfl rfl ?_
  refine x_callV hC xv_X2_136 dX2_many_6 (q := 9) rfl rfl (m_J3_size h0 g hl) (nn := n) hl rfl rfl (Nat.le_of_ble_eq_true rfl) ⟨(show 0 + 1 ≤ fr + 4 by omega), (show 8 + (1 + 11) + 0 ≤ lo + 80 by omega)⟩ ⟨(Nat.le_of_ble_eq_true rfl), (Nat.le_of_ble_eq_true rfl)⟩ (fun v g1 hp => ?_)
  obtain ⟨rfl, hg1⟩ := hp
  replace hg1 := hg1.symm
  subst hg1
  refine x_icmp_ge hC dX2_many_9 (q := 12) rfl (tgt := 35) rfl (fun h9 => ?_) (fun h9 => ?_)
  · have hj3 : j = N := by
      have h2 : nI N ≤ nI j := h9
      have := (nI_leI (by omega) (by omega)).mp h2
      omega
    refine x_iload_n hC dX2_many_35 (q := 36) rfl rfl ?_
    exact x_iret hC hr dX2_many_36 (Nat.le_of_ble_eq_true rfl) (Nat.le_of_ble_eq_true rfl) ⟨by rw [hj3], rfl⟩
  have hj2 : j < N := Nat.lt_of_not_le (fun q => h9 (show nI N ≤ nI j from nI_le q (by omega)))
  refine x_aloadr_n hC dX2_many_12 (q := 13) rfl rfl ?_
  refine x_aloadr_n hC dX2_many_13 (q := 14) rfl rfl ?_
  refine x_iload_n hC dX2_many_14 (q := 15) rfl rfl ?_
  refine x_callV hC xv_X2_139 dX2_many_15 (q := 18) rfl rfl (hGt j hj2) (nn := n) hl rfl rfl (Nat.le_of_ble_eq_true rfl) ⟨(show 2 + 1 ≤ fr + 4 by omega), (show 8 + (2 + 11) + 43 ≤ lo + 80 by omega)⟩ ⟨(Nat.le_of_ble_eq_true rfl), (Nat.le_of_ble_eq_true rfl)⟩ (fun v g1 hp => ?_)
  obtain ⟨rfl, hg1⟩ := hp
  replace hg1 := hg1.symm
  subst hg1
  refine x_callM hC (hL j hj2) q1383 q1385 q1384 hsh (by decide) (show (parseMethodDescriptor "(Ljava/lang/Object;)Z").map (fun d => d.parameters.length) = some 1 by decide +kernel) (q := 23) dX2_many_18 rfl (As := [.ref (el j)]) (rest := []) rfl (by decide) rfl ⟨(show fr + 1 ≤ fr + 4 by omega), (show 8 + (2 + 11) + lo ≤ lo + 80 by omega)⟩ ⟨(show 0 + 0 ≤ 0 by omega), (show 0 + 0 ≤ 0 by omega)⟩ (fun v g1 hp => ?_)
  obtain ⟨rfl, hg1⟩ := hp
  replace hg1 := hg1.symm
  subst hg1
  refine x_if_eq hC dX2_many_23 (q := 26) rfl (tgt := 29) rfl (fun h23 => ?_) (fun h23 => ?_)
  · refine x_iinc hC dX2_many_29 (q := 32) rfl rfl (v := nI (j + 1)) (nI_1 j) ?_
    refine x_goto hC dX2_many_32 (tgt := 4) rfl ?_
    first
      | (rw [show kCn b j + 1 = kCn b (j + 1) from (if_pos hb).symm]
         exact ih (j + 1) (by omega) (by omega))
      | (rw [show kCn b j = kCn b (j + 1) from (if_neg (fun q => by rw [q] at h23; exact absurd h23 (by decide))).symm]
         exact ih (j + 1) (by omega) (by omega))
  have hb : b j = true := by
    cases hq : b j with
    | true => rfl
    | false => rw [hq] at h23; exact absurd rfl h23
  refine x_iinc hC dX2_many_26 (q := 29) rfl rfl (v := nI (kCn b j + 1)) (nI_1 _) ?_
  refine x_iinc hC dX2_many_29 (q := 32) rfl rfl (v := nI (j + 1)) (nI_1 j) ?_
  refine x_goto hC dX2_many_32 (tgt := 4) rfl ?_
  first
    | (rw [show kCn b j + 1 = kCn b (j + 1) from (if_pos hb).symm]
       exact ih (j + 1) (by omega) (by omega))
    | (rw [show kCn b j = kCn b (j + 1) from (if_neg (fun q => by rw [q] at h23; exact absurd h23 (by decide))).symm]
       exact ih (j + 1) (by omega) (by omega))
