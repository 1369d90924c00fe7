/-! rows seen -/
set_option maxHeartbeats 4000000 in
set_option maxRecDepth 100000 in
theorem m_areRows {l : Launch} {s0 : State} {D : va_G} (h0 : x0 l s0 D) (σ : KS) (gF : xG) (hw : KW σ) (c1 p1 t1 : Nat) (hc1 : c1 < kA σ 61 0) (hp1 : p1 < 6) (ht1 : t1 ≤ 99) (t0 : kV σ 0 0 0 = c1) (tp1 : kV σ 0 0 1 = p1) (tp2 : kV σ 0 0 2 = t1) : xMet l s0 D yX2_areRows cX2_areRows 3 (some .boolean) (xr 5 0 0 106) [.ref (kA σ 0 0), .int 3] (kmix σ gF) (fun r g1 => r = some (.int 1) ∧ g1 = kmix σ gF) := by
  refine xMet.of h0 (by decide +kernel) rfl ?_
  intro p e s m args below meth c hC hr hnm
  refine x_iload_n hC dX2_areRows_0 (q := 1) rfl rfl ?_
  refine x_if_eq hC dX2_areRows_1 (q := 4) rfl (tgt := 18) rfl (fun h1 => ?_) (fun h1 => ?_)
  · exact absurd h1 (by decide)
  refine x_iload_n hC dX2_areRows_4 (q := 5) rfl rfl ?_
  refine x_iconst hC dX2_areRows_5 (q := 6) rfl (v := (3)) (by decide) ?_
  refine x_irem hC dX2_areRows_6 (q := 7) rfl (by decide) ?_
  refine x_if_ne hC dX2_areRows_7 (q := 10) rfl (tgt := 18) rfl (fun h7 => ?_) (fun h7 => ?_)
  · exact absurd (by decide) h7
  refine x_iload_n hC dX2_areRows_10 (q := 11) rfl rfl ?_
  refine x_iconst hC dX2_areRows_11 (q := 12) rfl (v := (3)) (by decide) ?_
  refine x_idiv hC dX2_areRows_12 (q := 13) rfl (by decide) ?_
  refine x_bipush hC dX2_areRows_13 (q := 15) rfl (v := (16)) (by decide) ?_
  refine x_icmp_le hC dX2_areRows_15 (q := 18) rfl (tgt := 20) rfl (fun h15 => ?_) (fun h15 => ?_)
  · refine x_iconst hC dX2_areRows_20 (q := 21) rfl (v := (0)) (by decide) ?_
    refine x_istore_n hC dX2_areRows_21 (q := 22) rfl rfl ?_
    refine x_loop (S := (fun i : Nat => ((0 : Nat), (0 : Nat), kmix σ gF, ([some (.ref (kA σ 0 0)), some (.int 3), some (.int (nI (3 * i)))] : xL), ([] : List Value)))) (Inv := fun i => i ≤ 1) (μ := fun i => 1 - i) ?_ 0 (Nat.zero_le _)
    intro i1 hi ih
    dsimp only at hi ih ⊢
    refine x_iload_n hC dX2_areRows_22 (q := 23) rfl rfl ?_
    refine x_iload_n hC dX2_areRows_23 (q := 24) rfl rfl ?_
    refine x_icmp_ge hC dX2_areRows_24 (q := 27) rfl (tgt := 74) rfl (fun h24 => ?_) (fun h24 => ?_)
    · refine x_iconst hC dX2_areRows_74 (q := 75) rfl (v := (1)) (by decide) ?_
      exact x_zret hC hr rfl dX2_areRows_75 (Nat.le_of_ble_eq_true rfl) (Nat.le_of_ble_eq_true rfl) ⟨rfl, rfl⟩
    have hi0 : i1 = 0 := by
      have h2 : ¬ nI 3 ≤ nI (3 * i1) := h24
      rw [nI_leI (by decide) (by omega)] at h2
      omega
    subst hi0
    refine x_aloadr_n hC dX2_areRows_27 (q := 28) rfl rfl ?_
    refine x_aloadr_n hC dX2_areRows_28 (q := 29) rfl rfl ?_
    refine x_get hC xf_X2_9_1 dX2_areRows_29 (q := 32) rfl (n := (0, 0)) rfl rfl ?_
    refine x_iload_n hC dX2_areRows_32 (q := 33) rfl rfl ?_
    refine x_cald hC dX2_areRows_33 (q := 34) rfl (n := (1, 0)) rfl (j := 0) rfl (by decide) (by decide) ?_
    refine x_steq (st1 := [.int (nI c1), .ref (kA σ 0 0)]) (by rw [t0, iI_nat]) ?_
    refine x_callV hC xv_X2_313 dX2_areRows_34 (q := 37) rfl rfl (m_X2_childOf h0 σ gF hw c1 hc1) (nn := (0, 0)) rfl rfl rfl (Nat.le_of_ble_eq_true rfl) ⟨(Nat.le_of_ble_eq_true rfl), (Nat.le_of_ble_eq_true rfl)⟩ ⟨(Nat.le_of_ble_eq_true rfl), (Nat.le_of_ble_eq_true rfl)⟩ (fun v g1 hp => ?_)
    obtain ⟨rfl, hg1⟩ := hp
    replace hg1 := hg1.symm
    subst hg1
    refine x_ifnull_r hC dX2_areRows_37 (q := 40) rfl ?_
    refine x_aloadr_n hC dX2_areRows_40 (q := 41) rfl rfl ?_
    refine x_get hC xf_X2_9_1 dX2_areRows_41 (q := 44) rfl (n := (0, 0)) rfl rfl ?_
    refine x_iload_n hC dX2_areRows_44 (q := 45) rfl rfl ?_
    refine x_iconst hC dX2_areRows_45 (q := 46) rfl (v := (1)) (by decide) ?_
    refine x_iadd hC dX2_areRows_46 (q := 47) rfl ?_
    refine x_cald hC dX2_areRows_47 (q := 48) rfl (n := (1, 0)) rfl (j := 1) rfl (by decide) (by decide) ?_
    refine x_bipush hC dX2_areRows_48 (q := 50) rfl (v := (6)) (by decide) ?_
    refine x_icmp_ge hC dX2_areRows_50 (q := 53) rfl (tgt := 66) rfl (fun h50 => ?_) (fun h50 => ?_)
    · exact absurd (show nI 6 ≤ nI p1 by have h2 := h50; rw [tp1, iI_nat] at h2; exact h2) (by rw [nI_leI (by decide) (by omega)]; omega)
    refine x_aloadr_n hC dX2_areRows_53 (q := 54) rfl rfl ?_
    refine x_get hC xf_X2_9_1 dX2_areRows_54 (q := 57) rfl (n := (0, 0)) rfl rfl ?_
    refine x_iload_n hC dX2_areRows_57 (q := 58) rfl rfl ?_
    refine x_iconst hC dX2_areRows_58 (q := 59) rfl (v := (2)) (by decide) ?_
    refine x_iadd hC dX2_areRows_59 (q := 60) rfl ?_
    refine x_cald hC dX2_areRows_60 (q := 61) rfl (n := (1, 0)) rfl (j := 2) rfl (by decide) (by decide) ?_
    refine x_bipush hC dX2_areRows_61 (q := 63) rfl (v := (99)) (by decide) ?_
    refine x_icmp_le hC dX2_areRows_63 (q := 66) rfl (tgt := 68) rfl (fun h63 => ?_) (fun h63 => ?_)
    · refine x_iinc hC dX2_areRows_68 (q := 71) rfl rfl (v := nI (3 * 1)) (by decide) ?_
      refine x_goto hC dX2_areRows_71 (tgt := 22) rfl ?_
      exact ih 1 (by omega) (by omega)
    · exact absurd (show iI (kV σ 0 0 2) ≤ nI 99 by rw [tp2, iI_nat]; exact nI_le (by omega) (by decide)) h63
  · exact absurd (by decide) h15

/-- one row is seen -/
def kSn (σ : KS) (d v : Nat) (f : Nat → Int) : KS := (fun a k => if a = 17 ∧ k = 0 then kI σ 17 0 + 1 else σ.1 a k, fun a k => if a = 64 ∧ k = 0 then 1 else if a = 15 ∧ k = 0 then v else if a = 14 ∧ k = 0 then d else if a = 74 ∧ k = 0 then 10 else σ.2.1 a k, σ.2.2.1, fun a k j => if a = 3 ∧ k = 0 then f j else σ.2.2.2.1 a k j, σ.2.2.2.2)
def kRw3 (a b c : Int) : Nat → Int
  | 0 => a
  | 1 => b
  | 2 => c
  | _ => 0
theorem kRw3_fold (a b c : Int) : upd (upd (upd (fun _ => (0 : Int32)) 0 (iI a)) 1 (iI b)) 2 (iI c) = fun j => iI (kRw3 a b c j) := by
  funext j
  unfold upd
  match j with
  | 0 => rfl
  | 1 => rfl
  | 2 => rfl
  | j + 3 => rfl
theorem kSn_fold {σ : KS} {gF : xG} {d v : Nat} {f : Nat → Int} (h64 : kA σ 64 0 = 0) (h53 : gF (53, 0) = none) : xu (xu (xu (xu (kmix σ (xu gF (53, 0) (some (v, xAi .int 3 (fun j => iI (f j)))))) (14, 0) (some (d, xAr (.object "java/lang/Object") 10 (va_up (fun _ => none) 0 (some v))))) (13, 0) (some (kA σ 13 0, xO 21 [.int (iI (kI σ 17 0) + 1), .ref d, .int 1]))) (53, 0) none) (15, 0) (some (v, xAi .int 3 (fun j => iI (f j)))) = kmix (kSn σ d v f) gF := by
  refine kext (fun k i hk => ?_) (fun n hn => ?_)
  · by_cases e1 : (k, i) = (15, 0)
    · cases e1
      rw [xu_eq]
      have c1 : 0 < kA (kSn σ d v f) 64 0 := Nat.lt_succ_self 0
      simp only [kenc, if_pos c1]
      rfl
    · rw [xu_ne e1, xu_ne (fun q => by cases q; cases hk)]
      by_cases e2 : (k, i) = (13, 0)
      · cases e2
        rw [xu_eq]
        simp only [kenc]
        show _ = some (kA σ 13 0, xO 21 [.int (iI (kI σ 17 0 + 1)), .ref d, .int (nI 1)])
        rw [← iI_add]
        rfl
      · rw [xu_ne e2]
        by_cases e3 : (k, i) = (14, 0)
        · cases e3
          rw [xu_eq]
          have c1 : 0 < kA (kSn σ d v f) 74 0 := (by decide : 0 < 10)
          simp only [kenc, if_pos c1]
          have e15 : ∀ j, kA (kSn σ d v f) 15 j = if j = 0 then v else kA σ 15 j := by
            intro j
            show (if (15 : Nat) = 64 ∧ j = 0 then 1 else if (15 : Nat) = 15 ∧ j = 0 then v else if (15 : Nat) = 14 ∧ j = 0 then d else if (15 : Nat) = 74 ∧ j = 0 then 10 else kA σ 15 j) = _
            by_cases q : j = 0 <;> simp [q]
          simp only [e15]
          show _ = some (d, xAr (.object "java/lang/Object") 10 (fun j => if j < 1 then some (if j = 0 then v else kA σ 15 j) else none))
          have e : va_up (fun _ => none) 0 (some v) = (fun j : Nat => if j < 1 then some (if j = 0 then v else kA σ 15 j) else none) := by
            funext j
            unfold va_up
            by_cases q : j = 0
            · subst q; simp
            · rw [if_neg q, if_neg (by omega)]
          rw [e]
        · rw [xu_ne e3, kmix_eq _ _ _ _ hk]
          by_cases e4 : k = 15
          · subst e4
            have hi : i ≠ 0 := fun q => e1 (by rw [q])
            have c1 : ¬ i < kA σ 64 0 := by omega
            have c2 : ¬ i < kA (kSn σ d v f) 64 0 := by show ¬ i < 1; omega
            simp only [kenc, if_neg c1, if_neg c2]
          · unfold kenc
            split <;> simp [kSn, kI, kA, kO, kV, kL]
            all_goals (try rfl)
            all_goals (try (simp at e1 e2 e3 e4))
            all_goals (try (split <;> first | rfl | (exfalso; simp_all; done) | skip))
  · obtain ⟨k, i⟩ := n
    have hn' : ∀ a b, Nat.blt a 40 = true → (k, i) ≠ (a, b) := fun a b ha q => by cases q; rw [hn] at ha; cases ha
    rw [xu_ne (hn' _ _ rfl)]
    by_cases e1 : (k, i) = (53, 0)
    · rw [e1, xu_eq, h53]
    · rw [xu_ne e1, xu_ne (hn' _ _ rfl), xu_ne (hn' _ _ rfl), kmix_F _ _ _ hn, xu_ne e1]

set_option maxHeartbeats 4000000 in
set_option maxRecDepth 100000 in
theorem m_see {l : Launch} {s0 : State} {D : va_G} (h0 : x0 l s0 D) (σ : KS) (gF : xG) (hw : KW σ) (c1 p1 t1 : Nat) (hc1 : c1 < kA σ 61 0) (hp1 : p1 < 6) (ht1 : t1 ≤ 99) (t0 : kV σ 0 0 0 = c1) (tp1 : kV σ 0 0 1 = p1) (tp2 : kV σ 0 0 2 = t1) (htp : kI σ 0 0 = 3) (h53 : gF (53, 0) = none) (h74 : kA σ 74 0 = 0) (hz : xE0 s0 gF (kA σ 14 0)) : xMet l s0 D yX2_see cX2_see 4 (some .int) (xr 11 2 13 400) [.ref (kA σ 0 0)] (kmix σ gF) (fun r g1 => ∃ d v, r = some (.int 1) ∧ g1 = kmix (kSn (kAs (kIs (kIs σ 0 0 0) 17 0 (kI σ 17 0 + 1)) 64 0 0) d v (kRw3 c1 p1 t1)) gF) := by
  refine xMet.of h0 (by decide +kernel) rfl ?_
  intro p e s m args below meth c hC hr hnm
  refine x_aloadr_n hC dX2_see_0 (q := 1) rfl rfl ?_
  refine x_get hC xf_X2_82_1 dX2_see_1 (q := 4) rfl (n := (0, 0)) rfl rfl ?_
  refine x_steq (st1 := [.int 3]) (by rw [htp]; rfl) ?_
  refine x_istore_n hC dX2_see_4 (q := 5) rfl rfl ?_
  refine x_aloadr_n hC dX2_see_5 (q := 6) rfl rfl ?_
  refine x_iconst hC dX2_see_6 (q := 7) rfl (v := (0)) (by decide) ?_
  refine x_put hC (n := (0, 0)) xf_X2_82_1 xd_1 rfl dX2_see_7 (q := 10) rfl rfl rfl rfl rfl ?_
  refine x_geq (kf_taped (z := 0) rfl) ?_
  refine x_aloadr_n hC dX2_see_10 (q := 11) rfl rfl ?_
  refine x_iload_n hC dX2_see_11 (q := 12) rfl rfl ?_
  refine x_callV hC xv_X2_437 dX2_see_12 (q := 15) rfl rfl (m_areRows h0 (kIs σ 0 0 0) gF hw c1 p1 t1 hc1 hp1 ht1 t0 tp1 tp2) (nn := (0, 0)) rfl rfl rfl (Nat.le_of_ble_eq_true rfl) ⟨(Nat.le_of_ble_eq_true rfl), (Nat.le_of_ble_eq_true rfl)⟩ ⟨(Nat.le_of_ble_eq_true rfl), (Nat.le_of_ble_eq_true rfl)⟩ (fun v g1 hp => ?_)
  obtain ⟨rfl, hg1⟩ := hp
  replace hg1 := hg1.symm
  subst hg1
  refine x_if_ne hC dX2_see_15 (q := 18) rfl (tgt := 24) rfl (fun h15 => ?_) (fun h15 => ?_)
  · refine x_aloadr_n hC dX2_see_24 (q := 25) rfl rfl ?_
    refine x_get hC xf_X2_35_1 dX2_see_25 (q := 28) rfl (n := (0, 0)) rfl rfl ?_
    refine x_callV hC xv_X2_122 dX2_see_28 (q := 31) rfl rfl (m_seen_clear h0 (kIs σ 0 0 0) gF (hw.2.2.1 64 (by decide) (by decide))) (nn := (13, 0)) rfl rfl rfl (Nat.le_of_ble_eq_true rfl) ⟨(Nat.le_of_ble_eq_true rfl), (Nat.le_of_ble_eq_true rfl)⟩ ⟨(Nat.le_of_ble_eq_true rfl), (Nat.le_of_ble_eq_true rfl)⟩ (fun v g1 hp => ?_)
    obtain ⟨rfl, hg1⟩ := hp
    replace hg1 := hg1.symm
    subst hg1
    refine x_iconst hC dX2_see_31 (q := 32) rfl (v := (0)) (by decide) ?_
    refine x_istore_n hC dX2_see_32 (q := 33) rfl rfl ?_
    refine x_loop (S := (fun i : Nat × KS => (2 * i.1, 13 * i.1, kmix i.2 gF, ([some (.ref (kA σ 0 0)), some (.int 3), some (.int (nI (3 * i.1))), none] : xL), ([] : List Value)))) (Inv := fun i => (i.1 = 0 ∧ i.2 = (kAs (kIs (kIs σ 0 0 0) 17 0 (kI σ 17 0 + 1)) 64 0 0)) ∨ (i.1 = 1 ∧ ∃ d v, i.2 = kSn (kAs (kIs (kIs σ 0 0 0) 17 0 (kI σ 17 0 + 1)) 64 0 0) d v (kRw3 c1 p1 t1))) (μ := fun i => 1 - i.1) ?_ (0, (kAs (kIs (kIs σ 0 0 0) 17 0 (kI σ 17 0 + 1)) 64 0 0)) (Or.inl ⟨rfl, rfl⟩)
    intro ⟨i1, ρ⟩ hi ih
    dsimp only at hi ih ⊢
    refine x_iload_n hC dX2_see_33 (q := 34) rfl rfl ?_
    refine x_iload_n hC dX2_see_34 (q := 35) rfl rfl ?_
    refine x_icmp_ge hC dX2_see_35 (q := 38) rfl (tgt := 88) rfl (fun h35 => ?_) (fun h35 => ?_)
    · have hi1 : i1 = 1 := by
        rcases hi with q | q
        · rw [q.1] at h35; exact absurd h35 (by decide)
        · exact q.1
      subst hi1
      obtain ⟨d1, v1, rfl⟩ : ∃ d v, ρ = kSn (kAs (kIs (kIs σ 0 0 0) 17 0 (kI σ 17 0 + 1)) 64 0 0) d v (kRw3 c1 p1 t1) := by
        rcases hi with q | q
        · exact absurd q.1 (by decide)
        · exact q.2
      refine x_aloadr_n hC dX2_see_88 (q := 89) rfl rfl ?_
      refine x_get hC xf_X2_35_1 dX2_see_89 (q := 92) rfl (n := (0, 0)) rfl rfl ?_
      refine x_callV hC xv_X2_136 dX2_see_92 (q := 95) rfl rfl (m_J3_size h0 _ (n := (13, 0)) rfl) (nn := (13, 0)) rfl rfl rfl (Nat.le_of_ble_eq_true rfl) ⟨(Nat.le_of_ble_eq_true rfl), (Nat.le_of_ble_eq_true rfl)⟩ ⟨(show 2 * 1 + 0 ≤ 2 by omega), (show 13 * 1 + 0 ≤ 13 by omega)⟩ (fun v g1 hp => ?_)
      obtain ⟨rfl, hg1⟩ := hp
      replace hg1 := hg1.symm
      subst hg1
      exact x_iret hC hr dX2_see_95 (show 2 * 1 + 0 ≤ 2 by omega) (show 13 * 1 + 0 ≤ 13 by omega) ⟨d1, v1, rfl, rfl⟩
    have hi0 : i1 = 0 ∧ ρ = (kAs (kIs (kIs σ 0 0 0) 17 0 (kI σ 17 0 + 1)) 64 0 0) := by
      rcases hi with q | q
      · exact q
      · rw [q.1] at h35; exact absurd (by decide) h35
    obtain ⟨rfl, rfl⟩ := hi0
    clear hi h35
    refine x_iconst hC dX2_see_38 (q := 39) rfl (v := (3)) (by decide) ?_
    refine x_newa hC (at0 := .int) (N := 3) (x := (3, .inl (fun _ => 0))) (53, 0) q159 dX2_see_39 (q := 41) rfl rfl h53 rfl (by decide) (fun _ => rfl) (show 2 * 0 + 1 ≤ 2 by omega) (show 13 * 0 + 3 ≤ 13 by omega) (fun a_39 => ?_)
    refine x_geq (g' := kmix (kAs (kIs (kIs σ 0 0 0) 17 0 (kI σ 17 0 + 1)) 64 0 0) (xu gF (53, 0) (some (a_39, xAi .int 3 (fun _ => 0))))) (by repeat rw [kmix_xuF _ _ _ _ rfl]; first | rw [xu_xu] | rfl) ?_
    refine x_dup hC dX2_see_41 (q := 42) rfl rfl ?_
    refine x_iconst hC dX2_see_42 (q := 43) rfl (v := (0)) (by decide) ?_
    refine x_aloadr_n hC dX2_see_43 (q := 44) rfl rfl ?_
    refine x_get hC xf_X2_9_1 dX2_see_44 (q := 47) rfl (n := (0, 0)) rfl rfl ?_
    refine x_iload_n hC dX2_see_47 (q := 48) rfl rfl ?_
    refine x_cald hC dX2_see_48 (q := 49) rfl (n := (1, 0)) rfl (j := 0) rfl (by decide) (by decide) ?_
    refine x_steq (st1 := [.int (iI c1), .int 0, .ref a_39, .ref a_39]) (by rw [show kV (kAs (kIs (kIs σ 0 0 0) 17 0 (kI σ 17 0 + 1)) 64 0 0) 0 0 0 = c1 from t0]) ?_
    refine x_iast hC dX2_see_49 (q := 50) rfl (n := (53, 0)) rfl rfl (j := 0) rfl (by decide) (by decide) ?_
    refine x_geq (g' := kmix (kAs (kIs (kIs σ 0 0 0) 17 0 (kI σ 17 0 + 1)) 64 0 0) (xu gF (53, 0) (some (a_39, xAi .int 3 (upd (fun _ => 0) 0 (iI c1)))))) (by repeat rw [kmix_xuF _ _ _ _ rfl]; first | rw [xu_xu] | rfl) ?_
    refine x_dup hC dX2_see_50 (q := 51) rfl rfl ?_
    refine x_iconst hC dX2_see_51 (q := 52) rfl (v := (1)) (by decide) ?_
    refine x_aloadr_n hC dX2_see_52 (q := 53) rfl rfl ?_
    refine x_get hC xf_X2_9_1 dX2_see_53 (q := 56) rfl (n := (0, 0)) rfl rfl ?_
    refine x_iload_n hC dX2_see_56 (q := 57) rfl rfl ?_
    refine x_iconst hC dX2_see_57 (q := 58) rfl (v := (1)) (by decide) ?_
    refine x_iadd hC dX2_see_58 (q := 59) rfl ?_
    refine x_cald hC dX2_see_59 (q := 60) rfl (n := (1, 0)) rfl (j := 1) rfl (by decide) (by decide) ?_
    refine x_steq (st1 := [.int (iI p1), .int 1, .ref a_39, .ref a_39]) (by rw [show kV (kAs (kIs (kIs σ 0 0 0) 17 0 (kI σ 17 0 + 1)) 64 0 0) 0 0 1 = p1 from tp1]) ?_
    refine x_iast hC dX2_see_60 (q := 61) rfl (n := (53, 0)) rfl rfl (j := 1) rfl (by decide) (by decide) ?_
    refine x_geq (g' := kmix (kAs (kIs (kIs σ 0 0 0) 17 0 (kI σ 17 0 + 1)) 64 0 0) (xu gF (53, 0) (some (a_39, xAi .int 3 (upd (upd (fun _ => 0) 0 (iI c1)) 1 (iI p1)))))) (by repeat rw [kmix_xuF _ _ _ _ rfl]; first | rw [xu_xu] | rfl) ?_
    refine x_dup hC dX2_see_61 (q := 62) rfl rfl ?_
    refine x_iconst hC dX2_see_62 (q := 63) rfl (v := (2)) (by decide) ?_
    refine x_aloadr_n hC dX2_see_63 (q := 64) rfl rfl ?_
    refine x_get hC xf_X2_9_1 dX2_see_64 (q := 67) rfl (n := (0, 0)) rfl rfl ?_
    refine x_iload_n hC dX2_see_67 (q := 68) rfl rfl ?_
    refine x_iconst hC dX2_see_68 (q := 69) rfl (v := (2)) (by decide) ?_
    refine x_iadd hC dX2_see_69 (q := 70) rfl ?_
    refine x_cald hC dX2_see_70 (q := 71) rfl (n := (1, 0)) rfl (j := 2) rfl (by decide) (by decide) ?_
    refine x_steq (st1 := [.int (iI t1), .int 2, .ref a_39, .ref a_39]) (by rw [show kV (kAs (kIs (kIs σ 0 0 0) 17 0 (kI σ 17 0 + 1)) 64 0 0) 0 0 2 = t1 from tp2]) ?_
    refine x_iast hC dX2_see_71 (q := 72) rfl (n := (53, 0)) rfl rfl (j := 2) rfl (by decide) (by decide) ?_
    refine x_geq (g' := kmix (kAs (kIs (kIs σ 0 0 0) 17 0 (kI σ 17 0 + 1)) 64 0 0) (xu gF (53, 0) (some (a_39, xAi .int 3 (upd (upd (upd (fun _ => 0) 0 (iI c1)) 1 (iI p1)) 2 (iI t1)))))) (by repeat rw [kmix_xuF _ _ _ _ rfl]; first | rw [xu_xu] | rfl) ?_
    refine x_geq (g' := kmix (kAs (kIs (kIs σ 0 0 0) 17 0 (kI σ 17 0 + 1)) 64 0 0) (xu gF (53, 0) (some (a_39, xAi .int 3 (fun j => iI (kRw3 c1 p1 t1 j)))))) (by rw [kRw3_fold]) ?_
    refine x_astorer_n hC dX2_see_72 (q := 73) rfl rfl ?_
    refine x_aloadr_n hC dX2_see_73 (q := 74) rfl rfl ?_
    refine x_get hC xf_X2_35_1 dX2_see_74 (q := 77) rfl (n := (0, 0)) rfl rfl ?_
    refine x_aloadr_n hC dX2_see_77 (q := 78) rfl rfl ?_
    refine x_callV hC xv_X2_261 dX2_see_78 (q := 81) rfl rfl (m_J3_add_B h0 (kmix (kAs (kIs (kIs σ 0 0 0) 17 0 (kI σ 17 0 + 1)) 64 0 0) (xu gF (53, 0) (some (a_39, xAi .int 3 (fun j => iI (kRw3 c1 p1 t1 j)))))) (n := (13, 0)) (nd := (14, 0)) (n2 := (53, 0)) (mc := iI (kI σ 17 0 + 1)) (d0 := kA σ 14 0) (a := kA σ 13 0) (v := a_39) rfl rfl rfl (by decide) (by decide) (by decide) (by decide) rfl (by rw [kmix_eq _ _ _ _ rfl]; exact if_neg (by show ¬ 0 < kA σ 74 0; omega)) ⟨hz.1, hz.2⟩ rfl q2199) (nn := (13, 0)) rfl rfl rfl (Nat.le_of_ble_eq_true rfl) ⟨(Nat.le_of_ble_eq_true rfl), (Nat.le_of_ble_eq_true rfl)⟩ ⟨(show 2 * 0 + 1 + 1 ≤ 2 by omega), (show 13 * 0 + 3 + 10 ≤ 13 by omega)⟩ (fun v g1 hp => ?_)
    obtain ⟨d1, rfl, hg1⟩ := hp
    replace hg1 := hg1.symm
    subst hg1
    refine x_ren (53, 0) (15, 0) rfl rfl (by rw [xu_ne (by intro q; cases q), xu_ne (by intro q; cases q), kmix_eq _ _ _ _ rfl]; rfl) ?_
    refine x_geq (g' := kmix (kSn (kAs (kIs (kIs σ 0 0 0) 17 0 (kI σ 17 0 + 1)) 64 0 0) d1 a_39 (kRw3 c1 p1 t1)) gF) (kSn_fold (σ := (kAs (kIs (kIs σ 0 0 0) 17 0 (kI σ 17 0 + 1)) 64 0 0)) rfl h53) ?_
    refine x_pop hC dX2_see_81 (q := 82) rfl rfl ?_
    refine x_iinc hC dX2_see_82 (q := 85) rfl rfl (v := nI (3 * 1)) (by decide) ?_
    refine x_goto hC dX2_see_85 (tgt := 33) rfl ?_
    refine x_lvle (lv' := [some (.ref (kA σ 0 0)), some (.int 3), some (.int (nI (3 * 1))), none]) (by repeat' constructor) ?_
    exact ih (1, kSn (kAs (kIs (kIs σ 0 0 0) 17 0 (kI σ 17 0 + 1)) 64 0 0) d1 a_39 (kRw3 c1 p1 t1)) (Or.inr ⟨rfl, d1, a_39, rfl⟩) (by dsimp only; omega)
  · exact absurd h15 (by decide)

set_option maxHeartbeats 4000000 in
set_option maxRecDepth 100000 in
theorem m_isAsSeen_1 {l : Launch} {s0 : State} {D : va_G} (h0 : x0 l s0 D) (σ : KS) (gF : xG) (f : aEnv) {F : Nat → Option (aEnv → Int64)} (hF : kF gF σ F) (hw : KW σ) (c1 p1 t1 : Nat) (hc1 : c1 < kA σ 61 0) (h64 : kA σ 64 0 = 1) (h74 : kA σ 74 0 = 10) (v0 : kV σ 3 0 0 = c1) (v1 : kV σ 3 0 1 = p1) (v2 : kV σ 3 0 2 = t1) (x : Int32) : xMet l s0 D yX2_isAsSeen cX2_isAsSeen 4 (some .boolean) (xr 38 0 0 1560) [.ref (kA σ 0 0), .int x] (kmix (kT σ f) gF) (fun r g1 => ∃ f1, r = some (.int (if kTemp F σ c1 x (nI p1) = nI t1 then 1 else 0)) ∧ g1 = kmix (kT σ f1) gF) := by
  refine xMet.of h0 (by decide +kernel) rfl ?_
  intro p e s m args below meth c hC hr hnm
  refine x_iconst hC dX2_isAsSeen_0 (q := 1) rfl (v := (0)) (by decide) ?_
  refine x_istore_n hC dX2_isAsSeen_1 (q := 2) rfl rfl ?_
  refine x_loop (S := (fun i : Nat × aEnv => ((0 : Nat), (0 : Nat), kmix (kT σ i.2) gF, ([some (.ref (kA σ 0 0)), some (.int x), some (.int (nI i.1)), none] : xL), ([] : List Value)))) (Inv := fun i => i.1 = 0 ∨ (i.1 = 1 ∧ kTemp F σ c1 x (nI p1) = nI t1)) (μ := fun i => 1 - i.1) ?_ (0, f) (Or.inl rfl)
  intro ⟨i1, f2⟩ hi ih
  dsimp only at hi ih ⊢
  refine x_iload_n hC dX2_isAsSeen_2 (q := 3) rfl rfl ?_
  refine x_aloadr_n hC dX2_isAsSeen_3 (q := 4) rfl rfl ?_
  refine x_get hC xf_X2_35_1 dX2_isAsSeen_4 (q := 7) rfl (n := (0, 0)) rfl rfl ?_
  refine x_callV hC xv_X2_136 dX2_isAsSeen_7 (q := 10) rfl rfl (m_J3_size h0 _ (n := (13, 0)) rfl) (nn := (13, 0)) rfl rfl rfl (Nat.le_of_ble_eq_true rfl) ⟨(Nat.le_of_ble_eq_true rfl), (Nat.le_of_ble_eq_true rfl)⟩ ⟨(Nat.le_of_ble_eq_true rfl), (Nat.le_of_ble_eq_true rfl)⟩ (fun v g1 hp => ?_)
  obtain ⟨rfl, hg1⟩ := hp
  replace hg1 := hg1.symm
  subst hg1
  refine x_icmp_ge hC dX2_isAsSeen_10 (q := 13) rfl (tgt := 63) rfl (fun h10 => ?_) (fun h10 => ?_)
  · have hi1 : i1 = 1 ∧ kTemp F σ c1 x (nI p1) = nI t1 := by
      rcases hi with q | q
      · rw [q] at h10; exact absurd (show nI (kA σ 64 0) ≤ nI 0 from h10) (by rw [h64]; decide)
      · exact q
    refine x_iconst hC dX2_isAsSeen_63 (q := 64) rfl (v := (1)) (by decide) ?_
    exact x_zret hC hr rfl dX2_isAsSeen_64 (Nat.le_of_ble_eq_true rfl) (Nat.le_of_ble_eq_true rfl) ⟨f2, by rw [if_pos hi1.2], rfl⟩
  have hi0 : i1 = 0 := by
    rcases hi with q | q
    · exact q
    · exact absurd (show nI (kA σ 64 0) ≤ nI i1 by rw [h64, q.1]; decide) h10
  subst hi0
  refine x_aloadr_n hC dX2_isAsSeen_13 (q := 14) rfl rfl ?_
  refine x_get hC xf_X2_35_1 dX2_isAsSeen_14 (q := 17) rfl (n := (0, 0)) rfl rfl ?_
  refine x_iload_n hC dX2_isAsSeen_17 (q := 18) rfl rfl ?_
  refine x_callV hC xv_X2_139 dX2_isAsSeen_18 (q := 21) rfl rfl (m_J3_get h0 _ (n := (13, 0)) (nd := (14, 0)) rfl (kg_14 (σ := kT σ f2) (show 0 < kA σ 74 0 by rw [h74]; decide)) (j := 0) rfl (sz := kA σ 64 0) rfl (by omega) (show kA σ 64 0 ≤ kA σ 74 0 by omega) (show kA σ 74 0 < _ by rw [h74]; decide)) (nn := (13, 0)) rfl rfl rfl (Nat.le_of_ble_eq_true rfl) ⟨(Nat.le_of_ble_eq_true rfl), (Nat.le_of_ble_eq_true rfl)⟩ ⟨(Nat.le_of_ble_eq_true rfl), (Nat.le_of_ble_eq_true rfl)⟩ (fun v g1 hp => ?_)
  rw [if_pos (show 0 < kA (kT σ f2) 64 0 by show 0 < kA σ 64 0; omega)] at hp
  obtain ⟨rfl, hg1⟩ := hp
  replace hg1 := hg1.symm
  subst hg1
  refine x_castA hC q1764 (by dsimp only; decide) dX2_isAsSeen_21 (q := 24) rfl (n := (15, 0)) rfl (kg_15 (σ := kT σ f2) 0 (show 0 < kA σ 64 0 by omega)) ?_
  refine x_astorer_n hC dX2_isAsSeen_24 (q := 25) rfl rfl ?_
  refine x_aloadr_n hC dX2_isAsSeen_25 (q := 26) rfl rfl ?_
  refine x_aloadr_n hC dX2_isAsSeen_26 (q := 27) rfl rfl ?_
  refine x_get hC xf_X2_20_1 dX2_isAsSeen_27 (q := 30) rfl (n := (0, 0)) rfl rfl ?_
  refine x_get hC xf_X2_143_2 dX2_isAsSeen_30 (q := 33) rfl (n := (3, 0)) rfl rfl ?_
  refine x_aloadr_n hC dX2_isAsSeen_33 (q := 34) rfl rfl ?_
  refine x_iconst hC dX2_isAsSeen_34 (q := 35) rfl (v := (0)) (by decide) ?_
  refine x_iald hC dX2_isAsSeen_35 (q := 36) rfl (n := (15, 0)) (kg_15 (σ := kT σ f2) 0 (show 0 < kA σ 64 0 by omega)) (j := 0) rfl (by decide) (by decide) ?_
  refine x_steq (st1 := [.int (nI c1), .ref (kA σ 4 0), .ref (kA σ 0 0)]) (by rw [show kV (kT σ f2) 3 0 0 = c1 from v0, iI_nat]; rfl) ?_
  refine x_callV hC xv_X2_139 dX2_isAsSeen_36 (q := 39) rfl rfl (m_childAt h0 (kT σ f2) gF hw.c61 c1 hc1) (nn := (4, 0)) rfl rfl rfl (Nat.le_of_ble_eq_true rfl) ⟨(Nat.le_of_ble_eq_true rfl), (Nat.le_of_ble_eq_true rfl)⟩ ⟨(Nat.le_of_ble_eq_true rfl), (Nat.le_of_ble_eq_true rfl)⟩ (fun v g1 hp => ?_)
  obtain ⟨rfl, hg1⟩ := hp
  replace hg1 := hg1.symm
  subst hg1
  refine x_castS hC q1344 rfl dX2_isAsSeen_39 (q := 42) rfl (n := (20, c1)) (kg_20 (σ := kT σ f2) c1 hc1) ?_
  refine x_iload_n hC dX2_isAsSeen_42 (q := 43) rfl rfl ?_
  refine x_aloadr_n hC dX2_isAsSeen_43 (q := 44) rfl rfl ?_
  refine x_iconst hC dX2_isAsSeen_44 (q := 45) rfl (v := (1)) (by decide) ?_
  refine x_iald hC dX2_isAsSeen_45 (q := 46) rfl (n := (15, 0)) (kg_15 (σ := kT σ f2) 0 (show 0 < kA σ 64 0 by omega)) (j := 1) rfl (by decide) (by decide) ?_
  refine x_steq (st1 := [.int (nI p1), .int x, .ref (kA σ 20 c1), .ref (kA σ 0 0)]) (by rw [show kV (kT σ f2) 3 0 1 = p1 from v1, iI_nat]; rfl) ?_
  refine x_callV hC xv_X2_192 dX2_isAsSeen_46 (q := 49) rfl rfl (m_X2_temperOf h0 σ gF f2 hF c1 hc1 x (nI p1)) (nn := (0, 0)) rfl rfl rfl (Nat.le_of_ble_eq_true rfl) ⟨(Nat.le_of_ble_eq_true rfl), (Nat.le_of_ble_eq_true rfl)⟩ ⟨(Nat.le_of_ble_eq_true rfl), (Nat.le_of_ble_eq_true rfl)⟩ (fun v g1 hp => ?_)
  obtain ⟨f3, rfl, hg1⟩ := hp
  replace hg1 := hg1.symm
  subst hg1
  refine x_aloadr_n hC dX2_isAsSeen_49 (q := 50) rfl rfl ?_
  refine x_iconst hC dX2_isAsSeen_50 (q := 51) rfl (v := (2)) (by decide) ?_
  refine x_iald hC dX2_isAsSeen_51 (q := 52) rfl (n := (15, 0)) (kg_15 (σ := kT σ f3) 0 (show 0 < kA σ 64 0 by omega)) (j := 2) rfl (by decide) (by decide) ?_
  refine x_icmp_eq hC dX2_isAsSeen_52 (q := 55) rfl (tgt := 57) rfl (fun h52 => ?_) (fun h52 => ?_)
  · have htt : kTemp F σ c1 x (nI p1) = nI t1 := by rw [show nI t1 = iI (kV σ 3 0 2) by rw [v2, iI_nat]]; exact h52
    refine x_iinc hC dX2_isAsSeen_57 (q := 60) rfl rfl (v := nI 1) (by decide) ?_
    refine x_goto hC dX2_isAsSeen_60 (tgt := 2) rfl ?_
    refine x_lvle (lv' := [some (.ref (kA σ 0 0)), some (.int x), some (.int (nI 1)), none]) (by repeat' constructor) ?_
    exact ih (1, f3) (Or.inr ⟨rfl, htt⟩) (by dsimp only; omega)
  have htt : ¬ kTemp F σ c1 x (nI p1) = nI t1 := by rw [show nI t1 = iI (kV σ 3 0 2) by rw [v2, iI_nat]]; exact h52
  refine x_iconst hC dX2_isAsSeen_55 (q := 56) rfl (v := (0)) (by decide) ?_
  exact x_zret hC hr rfl dX2_isAsSeen_56 (Nat.le_of_ble_eq_true rfl) (Nat.le_of_ble_eq_true rfl) ⟨f3, by rw [if_neg htt], rfl⟩

set_option maxHeartbeats 4000000 in
set_option maxRecDepth 100000 in
theorem m_isAsSeen_0 {l : Launch} {s0 : State} {D : va_G} (h0 : x0 l s0 D) (σ : KS) (gF : xG) (f : aEnv) (h64 : kA σ 64 0 = 0) (x : Int32) : xMet l s0 D yX2_isAsSeen cX2_isAsSeen 4 (some .boolean) (xr 38 0 0 1560) [.ref (kA σ 0 0), .int x] (kmix (kT σ f) gF) (fun r g1 => r = some (.int 1) ∧ g1 = kmix (kT σ f) gF) := by
  refine xMet.of h0 (by decide +kernel) rfl ?_
  intro p e s m args below meth c hC hr hnm
  refine x_iconst hC dX2_isAsSeen_0 (q := 1) rfl (v := (0)) (by decide) ?_
  refine x_istore_n hC dX2_isAsSeen_1 (q := 2) rfl rfl ?_
  refine x_iload_n hC dX2_isAsSeen_2 (q := 3) rfl rfl ?_
  refine x_aloadr_n hC dX2_isAsSeen_3 (q := 4) rfl rfl ?_
  refine x_get hC xf_X2_35_1 dX2_isAsSeen_4 (q := 7) rfl (n := (0, 0)) rfl rfl ?_
  refine x_callV hC xv_X2_136 dX2_isAsSeen_7 (q := 10) rfl rfl (m_J3_size h0 _ (n := (13, 0)) rfl) (nn := (13, 0)) rfl rfl rfl (Nat.le_of_ble_eq_true rfl) ⟨(Nat.le_of_ble_eq_true rfl), (Nat.le_of_ble_eq_true rfl)⟩ ⟨(Nat.le_of_ble_eq_true rfl), (Nat.le_of_ble_eq_true rfl)⟩ (fun v g1 hp => ?_)
  obtain ⟨rfl, hg1⟩ := hp
  replace hg1 := hg1.symm
  subst hg1
  refine x_icmp_ge hC dX2_isAsSeen_10 (q := 13) rfl (tgt := 63) rfl (fun h10 => ?_) (fun h10 => ?_)
  · refine x_iconst hC dX2_isAsSeen_63 (q := 64) rfl (v := (1)) (by decide) ?_
    exact x_zret hC hr rfl dX2_isAsSeen_64 (Nat.le_of_ble_eq_true rfl) (Nat.le_of_ble_eq_true rfl) ⟨rfl, rfl⟩
  · exact absurd (show nI (kA σ 64 0) ≤ 0 by rw [h64]; decide) h10
