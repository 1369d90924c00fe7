/-! ArrayList.clear; a row is kept -/
theorem kext {σ' : KS} {gF' g' : xG} (h1 : ∀ k i, Nat.blt k 40 = true → g' (k, i) = kenc σ' k i) (h2 : ∀ n : xN, Nat.blt n.1 40 = false → g' n = gF' n) : g' = kmix σ' gF' := by
  funext n
  obtain ⟨k, i⟩ := n
  cases hb : Nat.blt k 40 with
  | true => rw [kmix_eq _ _ _ _ hb]; exact h1 k i hb
  | false => rw [kmix_F _ _ (k, i) hb]; exact h2 (k, i) hb
theorem clr_step {f : Nat → Option Nat} {i : Nat} : va_up (fun j => if j < i then none else f j) i none = (fun j => if j < i + 1 then none else f j) := by
  funext j
  unfold va_up
  by_cases e : j = i
  · subst e; simp
  · rw [if_neg e]
    show (if j < i then none else f j) = _
    by_cases h : j < i
    · rw [if_pos h, if_pos (by omega)]
    · rw [if_neg h, if_neg (by omega)]

set_option maxHeartbeats 4000000 in
set_option maxRecDepth 100000 in
theorem m_J3_clear_A {l : Launch} {s0 : State} {D : va_G} (h0 : x0 l s0 D) (g : xG) {n nd : xN} {a d N sz : Nat} {mc : Int32} {f : Nat → Option Nat} (hd1 : Nat.blt n.1 1000 = true) (hd2 : Nat.blt nd.1 1000 = true) (hne : n ≠ nd) (hl : g n = some (a, xO 21 [.int mc, .ref d, .int (nI sz)])) (ha : g nd = some (d, xAr (.object "java/lang/Object") N f)) (hsN : sz ≤ N) (hN : N < 2147483648) (hf : ∀ j, sz ≤ j → f j = none) : xMet l s0 D yJ3_clear cJ3_clear 4 none (xr 0 0 0 0) [.ref a] g (fun r g1 => r = none ∧ g1 = xu (xu g nd (some (d, xAr (.object "java/lang/Object") N (fun _ => none)))) n (some (a, xO 21 [.int (mc + 1), .ref d, .int 0]))) := by
  refine xMet.of h0 (by decide +kernel) rfl ?_
  intro p e s m args below meth c hC hr hnm
  refine x_aloadr_n hC dJ3_clear_0 (q := 1) rfl rfl ?_
  refine x_dup hC dJ3_clear_1 (q := 2) rfl rfl ?_
  refine x_get hC xf_J3_63_21 dJ3_clear_2 (q := 5) rfl (n := n) hl rfl ?_
  refine x_iconst hC dJ3_clear_5 (q := 6) rfl (v := (1)) (by decide) ?_
  refine x_iadd hC dJ3_clear_6 (q := 7) rfl ?_
  refine x_put hC (n := n) xf_J3_63_21 xd_21 hd1 dJ3_clear_7 (q := 10) rfl hl rfl rfl rfl ?_
  refine x_aloadr_n hC dJ3_clear_10 (q := 11) rfl rfl ?_
  refine x_get hC xf_J3_9_21 dJ3_clear_11 (q := 14) rfl (n := n) (xu_eq _ _ _) rfl ?_
  refine x_astorer_n hC dJ3_clear_14 (q := 15) rfl rfl ?_
  refine x_aloadr_n hC dJ3_clear_15 (q := 16) rfl rfl ?_
  refine x_get hC xf_J3_48_21 dJ3_clear_16 (q := 19) rfl (n := n) (xu_eq _ _ _) rfl ?_
  refine x_istore_n hC dJ3_clear_19 (q := 20) rfl rfl ?_
  refine x_aloadr_n hC dJ3_clear_20 (q := 21) rfl rfl ?_
  refine x_iconst hC dJ3_clear_21 (q := 22) rfl (v := (0)) (by decide) ?_
  refine x_dup_x1 hC dJ3_clear_22 (q := 23) rfl rfl rfl ?_
  refine x_put hC (n := n) xf_J3_48_21 xd_21 hd1 dJ3_clear_23 (q := 26) rfl (xu_eq _ _ _) rfl rfl rfl ?_
  refine x_istore_n hC dJ3_clear_26 (q := 27) rfl rfl ?_
  refine x_geq (g' := xu (xu g nd (some (d, xAr (.object "java/lang/Object") N (fun j => if j < 0 then none else f j)))) n (some (a, xO 21 [.int (mc + 1), .ref d, .int 0]))) (by rw [show (fun j => if j < 0 then none else f j) = f from funext fun j => if_neg (Nat.not_lt_zero j), xu_self ha, xu_xu]; rfl) ?_
  refine x_loop (S := (fun i => ((0 : Nat), (0 : Nat), xu (xu g nd (some (d, xAr (.object "java/lang/Object") N (fun j => if j < i then none else f j)))) n (some (a, xO 21 [.int (mc + 1), .ref d, .int 0])), ([some (.ref a), some (.ref d), some (.int (nI sz)), some (.int (nI i))] : xL), ([] : List Value)))) (Inv := fun i => i ≤ sz) (μ := fun i => sz - i) ?_ 0 (Nat.zero_le _)
  intro i hi ih
  dsimp only at ih ⊢
  refine x_iload_n hC dJ3_clear_27 (q := 28) rfl rfl ?_
  refine x_iload_n hC dJ3_clear_28 (q := 29) rfl rfl ?_
  refine x_icmp_ge hC dJ3_clear_29 (q := 32) rfl (tgt := 42) rfl (fun h29 => ?_) (fun h29 => ?_)
  · have hi2 : i = sz := by
      have := (nI_leI (by omega) (by omega)).mp h29
      omega
    exact x_vret hC hr dJ3_clear_42 (Nat.le_of_ble_eq_true rfl) (Nat.le_of_ble_eq_true rfl) ⟨rfl, by rw [hi2, show (fun j => if j < sz then none else f j) = (fun _ => none) from funext fun j => by by_cases h : j < sz; exact if_pos h; rw [if_neg h]; exact hf j (by omega)]⟩
  have hi2 : i < sz := Nat.lt_of_not_le (fun q => h29 (nI_le q (by omega)))
  refine x_aloadr_n hC dJ3_clear_32 (q := 33) rfl rfl ?_
  refine x_iload_n hC dJ3_clear_33 (q := 34) rfl rfl ?_
  refine x_null hC dJ3_clear_34 (q := 35) rfl ?_
  refine x_aastn hC dJ3_clear_35 (q := 36) rfl (n := nd) hd2 (by rw [xu_ne hne.symm, xu_eq]) (j := i) rfl (by omega) hN ?_
  refine x_iinc hC dJ3_clear_36 (q := 39) rfl rfl (v := nI (i + 1)) (nI_1 i) ?_
  refine x_goto hC dJ3_clear_39 (tgt := 27) rfl ?_
  refine x_geq (g' := xu (xu g nd (some (d, xAr (.object "java/lang/Object") N (fun j => if j < (i + 1) then none else f j)))) n (some (a, xO 21 [.int (mc + 1), .ref d, .int 0]))) (by rw [xu_cm hne, xu_xu, clr_step]) ?_
  exact ih (i + 1) (by omega) (by omega)

set_option maxHeartbeats 4000000 in
set_option maxRecDepth 100000 in
theorem m_J3_clear_0 {l : Launch} {s0 : State} {D : va_G} (h0 : x0 l s0 D) (g : xG) {n : xN} {a d : Nat} {mc : Int32} (hd1 : Nat.blt n.1 1000 = true) (hl : g n = some (a, xO 21 [.int mc, .ref d, .int 0])) : xMet l s0 D yJ3_clear cJ3_clear 4 none (xr 0 0 0 0) [.ref a] g (fun r g1 => r = none ∧ g1 = xu g n (some (a, xO 21 [.int (mc + 1), .ref d, .int 0]))) := by
  refine xMet.of h0 (by decide +kernel) rfl ?_
  intro p e s m args below meth c hC hr hnm
  refine x_aloadr_n hC dJ3_clear_0 (q := 1) rfl rfl ?_
  refine x_dup hC dJ3_clear_1 (q := 2) rfl rfl ?_
  refine x_get hC xf_J3_63_21 dJ3_clear_2 (q := 5) rfl (n := n) hl rfl ?_
  refine x_iconst hC dJ3_clear_5 (q := 6) rfl (v := (1)) (by decide) ?_
  refine x_iadd hC dJ3_clear_6 (q := 7) rfl ?_
  refine x_put hC (n := n) xf_J3_63_21 xd_21 hd1 dJ3_clear_7 (q := 10) rfl hl rfl rfl rfl ?_
  refine x_aloadr_n hC dJ3_clear_10 (q := 11) rfl rfl ?_
  refine x_get hC xf_J3_9_21 dJ3_clear_11 (q := 14) rfl (n := n) (xu_eq _ _ _) rfl ?_
  refine x_astorer_n hC dJ3_clear_14 (q := 15) rfl rfl ?_
  refine x_aloadr_n hC dJ3_clear_15 (q := 16) rfl rfl ?_
  refine x_get hC xf_J3_48_21 dJ3_clear_16 (q := 19) rfl (n := n) (xu_eq _ _ _) rfl ?_
  refine x_istore_n hC dJ3_clear_19 (q := 20) rfl rfl ?_
  refine x_aloadr_n hC dJ3_clear_20 (q := 21) rfl rfl ?_
  refine x_iconst hC dJ3_clear_21 (q := 22) rfl (v := (0)) (by decide) ?_
  refine x_dup_x1 hC dJ3_clear_22 (q := 23) rfl rfl rfl ?_
  refine x_put hC (n := n) xf_J3_48_21 xd_21 hd1 dJ3_clear_23 (q := 26) rfl (xu_eq _ _ _) rfl rfl rfl ?_
  refine x_istore_n hC dJ3_clear_26 (q := 27) rfl rfl ?_
  refine x_iload_n hC dJ3_clear_27 (q := 28) rfl rfl ?_
  refine x_iload_n hC dJ3_clear_28 (q := 29) rfl rfl ?_
  refine x_icmp_ge hC dJ3_clear_29 (q := 32) rfl (tgt := 42) rfl (fun h29 => ?_) (fun h29 => ?_)
  · exact x_vret hC hr dJ3_clear_42 (Nat.le_of_ble_eq_true rfl) (Nat.le_of_ble_eq_true rfl) ⟨rfl, by rw [xu_xu]; rfl⟩
  · exact absurd (by decide) h29

def kTell (σ : KS) (d v : Nat) (f : Nat → Int) : KS := (fun a k => if a = 16 ∧ k = 0 then kI σ 16 0 + 1 else σ.1 a k, fun a k => if a = 63 ∧ k = 0 then kA σ 63 0 + 1 else if a = 12 ∧ k = kA σ 63 0 then v else if a = 11 ∧ k = 0 then d else if a = 73 ∧ k = 0 then (if kA σ 73 0 = 0 then 10 else kA σ 73 0) else σ.2.1 a k, σ.2.2.1, fun a k j => if a = 2 ∧ k = kA σ 63 0 then f j else σ.2.2.2.1 a k j, σ.2.2.2.2)
/-- the rows are in order: none beside the told ones, and an act's are told ones -/
def KR (σ : KS) : Prop := kA σ 60 0 = 0 ∧ (∀ i, i < kA σ 65 0 → kA σ 66 i ≤ kA σ 63 0)
theorem kTell_fold {σ : KS} {gF : xG} {d v : Nat} {f : Nat → Int} {mc : Int32} (hr : KR σ) (hmc : mc = iI (kI σ 16 0 + 1)) {F : Nat → Option Nat} {N : Nat} (hN : N = if kA σ 73 0 = 0 then 10 else kA σ 73 0) (hF : F = fun j => if j < kA σ 63 0 + 1 then some (if j = kA σ 63 0 then v else kA σ 12 j) else none) (h53 : gF (53, 0) = none) :
    xu (xu (xu (xu (kmix σ (xu gF (53, 0) (some (v, xAi .int 4 (fun j => iI (f j)))))) (11, 0) (some (d, xAr (.object "java/lang/Object") N F))) (10, 0) (some (kA σ 10 0, xO 21 [.int mc, .ref d, .int (nI (kA σ 63 0 + 1))]))) (53, 0) none) (12, kA σ 63 0) (some (v, xAi .int 4 (fun j => iI (f j)))) = kmix (kTell σ d v f) gF := by
  subst hmc; subst hN; subst hF
  obtain ⟨h60, h66⟩ := hr
  refine kext (fun k i hk => ?_) (fun n hn => ?_)
  · by_cases e1 : (k, i) = (12, kA σ 63 0)
    · cases e1
      rw [xu_eq]
      simp [kenc, kTell, kA, kV]
    · rw [xu_ne e1, xu_ne (by intro q; cases q; cases hk)]
      by_cases e2 : (k, i) = (10, 0)
      · cases e2
        rw [xu_eq]
        simp [kenc, kTell, kA, kI]
      · rw [xu_ne e2]
        by_cases e3 : (k, i) = (11, 0)
        · cases e3
          rw [xu_eq]
          simp [kenc, kTell, kA]
          have hp : ∀ x : Nat, 0 < (if x = 0 then 10 else x) := fun x => by split <;> omega
          exact ⟨hp _, rfl⟩
        · rw [xu_ne e3, kmix_eq _ _ _ _ hk]
          by_cases e4 : k = 12
          · subst e4
            have hi : i ≠ kA σ 63 0 := fun q => e1 (by rw [q])
            by_cases h : i < kA σ 63 0
            · have c1 : i < kA σ 63 0 ∨ i < kA σ 60 0 := Or.inl h
              have c2 : i < kA (kTell σ d v f) 63 0 ∨ i < kA (kTell σ d v f) 60 0 := Or.inl (show i < kA σ 63 0 + 1 by omega)
              simp only [kenc, if_pos c1, if_pos c2]
              have hi2 : i ≠ σ.2.1 63 0 := hi
              simp [kTell, kA, kV, hi2]
            · have c1 : ¬ (i < kA σ 63 0 ∨ i < kA σ 60 0) := by omega
              have c2 : ¬ (i < kA (kTell σ d v f) 63 0 ∨ i < kA (kTell σ d v f) 60 0) := by
                show ¬ (i < kA σ 63 0 + 1 ∨ i < kA σ 60 0)
                omega
              simp only [kenc, if_neg c1, if_neg c2]
          · by_cases e5 : k = 34
            · subst e5
              by_cases h : i < kA σ 65 0 ∧ 0 < kA σ 76 i
              · have c2 : i < kA (kTell σ d v f) 65 0 ∧ 0 < kA (kTell σ d v f) 76 i := h
                simp only [kenc, if_pos h, if_pos c2]
                have e6 : (fun j => if j < kA (kTell σ d v f) 66 i then some (kA (kTell σ d v f) 12 j) else none) = (fun j => if j < kA σ 66 i then some (kA σ 12 j) else none) := by
                  funext j
                  have e7 : kA (kTell σ d v f) 12 j = if j = kA σ 63 0 then v else kA σ 12 j := by
                    simp [kTell, kA]
                    rfl
                  have e8 : kA (kTell σ d v f) 66 i = kA σ 66 i := by simp [kTell, kA]
                  rw [e7, e8]
                  by_cases hj : j < kA σ 66 i
                  · rw [if_pos hj, if_pos hj, if_neg (by have := h66 i h.1; omega)]
                  · rw [if_neg hj, if_neg hj]
                rw [e6]
                rfl
              · have c2 : ¬ (i < kA (kTell σ d v f) 65 0 ∧ 0 < kA (kTell σ d v f) 76 i) := h
                simp only [kenc, if_neg h, if_neg c2]
            · unfold kenc
              split <;> simp [kTell, kI, kA, kO, kV, kL]
              all_goals (try rfl)
              all_goals (try (simp at e1 e2 e3 e4 e5))
              all_goals (try (split <;> first | rfl | (exfalso; simp_all; done) | skip))
  · obtain ⟨k, i⟩ := n
    have hn' : ∀ a b, Nat.blt a 40 = true → (k, i) ≠ (a, b) := fun a b ha q => by cases q; rw [hn] at ha; cases ha
    rw [xu_ne (hn' _ _ rfl)]
    by_cases e1 : (k, i) = (53, 0)
    · rw [e1, xu_eq, h53]
    · rw [xu_ne e1, xu_ne (hn' _ _ rfl), xu_ne (hn' _ _ rfl), kmix_F _ _ _ hn, xu_ne e1]

def kRow (a b c d : Int) : Nat → Int
  | 0 => a
  | 1 => b
  | 2 => c
  | 3 => d
  | _ => 0
theorem kRow_fold (a b c d : Int) : upd (upd (upd (upd (fun _ => (0 : Int32)) 0 (iI a)) 1 (iI b)) 2 (iI c)) 3 (iI d) = fun j => iI (kRow a b c d j) := by
  funext j
  unfold upd
  match j with
  | 0 => rfl
  | 1 => rfl
  | 2 => rfl
  | 3 => rfl
  | j + 4 => rfl

set_option maxHeartbeats 4000000 in
set_option maxRecDepth 100000 in
theorem m_X2_isKept_A {l : Launch} {s0 : State} {D : va_G} (h0 : x0 l s0 D) (σ : KS) (gF : xG) (x y z : Int) (hw : KW σ) (hKR : KR σ) (h53 : gF (53, 0) = none) (h10 : kA σ 63 0 < 10) (hs : kA σ 63 0 < kA σ 73 0) : xMet l s0 D yX2_isKept cX2_isKept 5 none (xr 11 2 14 400) [.ref (kA σ 0 0), .int (iI x), .int (iI y), .int (iI z)] (kmix σ gF) (fun r g1 => ∃ v d, r = none ∧ (kA σ 73 0 ≠ 0 → d = kA σ 11 0) ∧ g1 = kmix (kTell σ d v (kRow (kI σ 3 0) x y z)) gF) := by
  refine xMet.of h0 (by decide +kernel) rfl ?_
  intro p e s m args below meth c hC hr hnm
  refine x_iconst hC dX2_isKept_0 (q := 1) rfl (v := (4)) (by decide) ?_
  refine x_newa hC (at0 := .int) (N := 4) (x := (4, .inl (fun _ => 0))) (53, 0) q159 dX2_isKept_1 (q := 3) rfl rfl h53 rfl (by decide) (fun _ => rfl) (Nat.le_of_ble_eq_true rfl) (Nat.le_of_ble_eq_true rfl) (fun a_1 => ?_)
  refine x_geq (g' := kmix σ (xu gF (53, 0) (some (a_1, xAi .int 4 (fun _ => 0))))) (by repeat rw [kmix_xuF _ _ _ _ rfl]; first | rw [xu_xu] | rfl) ?_
  refine x_dup hC dX2_isKept_3 (q := 4) rfl rfl ?_
  refine x_iconst hC dX2_isKept_4 (q := 5) rfl (v := (0)) (by decide) ?_
  refine x_aloadr_n hC dX2_isKept_5 (q := 6) rfl rfl ?_
  refine x_get hC xf_X2_119_1 dX2_isKept_6 (q := 9) rfl (n := (0, 0)) rfl rfl ?_
  refine x_iast hC dX2_isKept_9 (q := 10) rfl (n := (53, 0)) rfl rfl (j := 0) rfl (by decide) (by decide) ?_
  refine x_geq (g' := kmix σ (xu gF (53, 0) (some (a_1, xAi .int 4 (upd (fun _ => 0) 0 (iI (kI σ 3 0))))))) (by repeat rw [kmix_xuF _ _ _ _ rfl]; first | rw [xu_xu] | rfl) ?_
  refine x_dup hC dX2_isKept_10 (q := 11) rfl rfl ?_
  refine x_iconst hC dX2_isKept_11 (q := 12) rfl (v := (1)) (by decide) ?_
  refine x_iload_n hC dX2_isKept_12 (q := 13) rfl rfl ?_
  refine x_iast hC dX2_isKept_13 (q := 14) rfl (n := (53, 0)) rfl rfl (j := 1) rfl (by decide) (by decide) ?_
  refine x_geq (g' := kmix σ (xu gF (53, 0) (some (a_1, xAi .int 4 (upd (upd (fun _ => 0) 0 (iI (kI σ 3 0))) 1 (iI x)))))) (by repeat rw [kmix_xuF _ _ _ _ rfl]; first | rw [xu_xu] | rfl) ?_
  refine x_dup hC dX2_isKept_14 (q := 15) rfl rfl ?_
  refine x_iconst hC dX2_isKept_15 (q := 16) rfl (v := (2)) (by decide) ?_
  refine x_iload_n hC dX2_isKept_16 (q := 17) rfl rfl ?_
  refine x_iast hC dX2_isKept_17 (q := 18) rfl (n := (53, 0)) rfl rfl (j := 2) rfl (by decide) (by decide) ?_
  refine x_geq (g' := kmix σ (xu gF (53, 0) (some (a_1, xAi .int 4 (upd (upd (upd (fun _ => 0) 0 (iI (kI σ 3 0))) 1 (iI x)) 2 (iI y)))))) (by repeat rw [kmix_xuF _ _ _ _ rfl]; first | rw [xu_xu] | rfl) ?_
  refine x_dup hC dX2_isKept_18 (q := 19) rfl rfl ?_
  refine x_iconst hC dX2_isKept_19 (q := 20) rfl (v := (3)) (by decide) ?_
  refine x_iload_n hC dX2_isKept_20 (q := 21) rfl rfl ?_
  refine x_iast hC dX2_isKept_21 (q := 22) rfl (n := (53, 0)) rfl rfl (j := 3) rfl (by decide) (by decide) ?_
  refine x_geq (g' := kmix σ (xu gF (53, 0) (some (a_1, xAi .int 4 (upd (upd (upd (upd (fun _ => 0) 0 (iI (kI σ 3 0))) 1 (iI x)) 2 (iI y)) 3 (iI z)))))) (by repeat rw [kmix_xuF _ _ _ _ rfl]; first | rw [xu_xu] | rfl) ?_
  refine x_geq (g' := kmix σ (xu gF (53, 0) (some (a_1, xAi .int 4 (fun j => iI (kRow (kI σ 3 0) x y z j)))))) (by rw [kRow_fold]) ?_
  refine x_astorer hC dX2_isKept_22 (q := 24) rfl rfl ?_
  refine x_aloadr_n hC dX2_isKept_24 (q := 25) rfl rfl ?_
  refine x_get hC xf_X2_31_1 dX2_isKept_25 (q := 28) rfl (n := (0, 0)) rfl rfl ?_
  refine x_callV hC xv_X2_136 dX2_isKept_28 (q := 31) rfl rfl (m_J3_size h0 _ (n := (10, 0)) rfl) (nn := (10, 0)) rfl rfl rfl (Nat.le_of_ble_eq_true rfl) ⟨(Nat.le_of_ble_eq_true rfl), (Nat.le_of_ble_eq_true rfl)⟩ ⟨(Nat.le_of_ble_eq_true rfl), (Nat.le_of_ble_eq_true rfl)⟩ (fun v g1 hp => ?_)
  obtain ⟨rfl, hg1⟩ := hp
  replace hg1 := hg1.symm
  subst hg1
  refine x_bipush hC dX2_isKept_31 (q := 33) rfl (v := (40)) (by decide) ?_
  refine x_icmp_ne hC dX2_isKept_33 (q := 36) rfl (tgt := 45) rfl (fun h33 => ?_) (fun h33 => ?_)
  · refine x_aloadr_n hC dX2_isKept_45 (q := 46) rfl rfl ?_
    refine x_get hC xf_X2_31_1 dX2_isKept_46 (q := 49) rfl (n := (0, 0)) rfl rfl ?_
    refine x_aloadr hC dX2_isKept_49 (q := 51) rfl rfl ?_
    refine x_callV hC xv_X2_261 dX2_isKept_51 (q := 54) rfl rfl (m_J3_add_A h0 _ (n := (10, 0)) (nd := (11, 0)) (n2 := (53, 0)) rfl rfl rfl (by decide) (by decide) rfl (kg_11 (by omega)) rfl q2199 hs (by have := hw.c63; omega)) (nn := (10, 0)) rfl rfl rfl (Nat.le_of_ble_eq_true rfl) ⟨(Nat.le_of_ble_eq_true rfl), (Nat.le_of_ble_eq_true rfl)⟩ ⟨(Nat.le_of_ble_eq_true rfl), (Nat.le_of_ble_eq_true rfl)⟩ (fun v g1 hp => ?_)
    obtain ⟨rfl, hg1⟩ := hp
    replace hg1 := hg1.symm
    subst hg1
    refine x_ren (53, 0) (12, kA σ 63 0) rfl rfl (by rw [xu_ne (by intro q; cases q), xu_ne (by intro q; cases q), kmix_eq _ _ _ _ rfl]; simp only [kenc]; exact if_neg (by have := hKR.1; omega)) ?_
    refine x_geq (g' := kmix (kTell σ (kA σ 11 0) a_1 (kRow (kI σ 3 0) x y z)) gF) (kTell_fold hKR (by rw [← iI_add]; rfl) (if_neg (by omega)).symm (funext fun j => ?_) h53) ?_
    · simp only [va_up]
      by_cases e1 : j = kA σ 63 0
      · rw [if_pos e1, if_pos (by omega), if_pos e1]
      · rw [if_neg e1]
        by_cases e2 : j < kA σ 63 0
        · rw [if_pos e2, if_pos (by omega), if_neg e1]
        · rw [if_neg e2, if_neg (by omega)]
    refine x_pop hC dX2_isKept_54 (q := 55) rfl rfl ?_
    exact x_vret hC hr dX2_isKept_55 (Nat.le_of_ble_eq_true rfl) (Nat.le_of_ble_eq_true rfl) ⟨a_1, kA σ 11 0, rfl, fun _ => rfl, rfl⟩
  · exact absurd h33 (fun q => by have := (nI_eq (b := 40) (by omega) (by omega)).mp q; omega)

set_option maxHeartbeats 4000000 in
set_option maxRecDepth 100000 in
theorem m_X2_isKept_B {l : Launch} {s0 : State} {D : va_G} (h0 : x0 l s0 D) (σ : KS) (gF : xG) (x y z : Int) (hw : KW σ) (hKR : KR σ) (h53 : gF (53, 0) = none) (h10 : kA σ 63 0 < 10) (hs : kA σ 73 0 = 0) (hz : xE0 s0 gF (kA σ 11 0)) : xMet l s0 D yX2_isKept cX2_isKept 5 none (xr 11 2 14 400) [.ref (kA σ 0 0), .int (iI x), .int (iI y), .int (iI z)] (kmix σ gF) (fun r g1 => ∃ v d, r = none ∧ (kA σ 73 0 ≠ 0 → d = kA σ 11 0) ∧ g1 = kmix (kTell σ d v (kRow (kI σ 3 0) x y z)) gF) := by
  refine xMet.of h0 (by decide +kernel) rfl ?_
  intro p e s m args below meth c hC hr hnm
  refine x_iconst hC dX2_isKept_0 (q := 1) rfl (v := (4)) (by decide) ?_
  refine x_newa hC (at0 := .int) (N := 4) (x := (4, .inl (fun _ => 0))) (53, 0) q159 dX2_isKept_1 (q := 3) rfl rfl h53 rfl (by decide) (fun _ => rfl) (Nat.le_of_ble_eq_true rfl) (Nat.le_of_ble_eq_true rfl) (fun a_1 => ?_)
  refine x_geq (g' := kmix σ (xu gF (53, 0) (some (a_1, xAi .int 4 (fun _ => 0))))) (by repeat rw [kmix_xuF _ _ _ _ rfl]; first | rw [xu_xu] | rfl) ?_
  refine x_dup hC dX2_isKept_3 (q := 4) rfl rfl ?_
  refine x_iconst hC dX2_isKept_4 (q := 5) rfl (v := (0)) (by decide) ?_
  refine x_aloadr_n hC dX2_isKept_5 (q := 6) rfl rfl ?_
  refine x_get hC xf_X2_119_1 dX2_isKept_6 (q := 9) rfl (n := (0, 0)) rfl rfl ?_
  refine x_iast hC dX2_isKept_9 (q := 10) rfl (n := (53, 0)) rfl rfl (j := 0) rfl (by decide) (by decide) ?_
  refine x_geq (g' := kmix σ (xu gF (53, 0) (some (a_1, xAi .int 4 (upd (fun _ => 0) 0 (iI (kI σ 3 0))))))) (by repeat rw [kmix_xuF _ _ _ _ rfl]; first | rw [xu_xu] | rfl) ?_
  refine x_dup hC dX2_isKept_10 (q := 11) rfl rfl ?_
  refine x_iconst hC dX2_isKept_11 (q := 12) rfl (v := (1)) (by decide) ?_
  refine x_iload_n hC dX2_isKept_12 (q := 13) rfl rfl ?_
  refine x_iast hC dX2_isKept_13 (q := 14) rfl (n := (53, 0)) rfl rfl (j := 1) rfl (by decide) (by decide) ?_
  refine x_geq (g' := kmix σ (xu gF (53, 0) (some (a_1, xAi .int 4 (upd (upd (fun _ => 0) 0 (iI (kI σ 3 0))) 1 (iI x)))))) (by repeat rw [kmix_xuF _ _ _ _ rfl]; first | rw [xu_xu] | rfl) ?_
  refine x_dup hC dX2_isKept_14 (q := 15) rfl rfl ?_
  refine x_iconst hC dX2_isKept_15 (q := 16) rfl (v := (2)) (by decide) ?_
  refine x_iload_n hC dX2_isKept_16 (q := 17) rfl rfl ?_
  refine x_iast hC dX2_isKept_17 (q := 18) rfl (n := (53, 0)) rfl rfl (j := 2) rfl (by decide) (by decide) ?_
  refine x_geq (g' := kmix σ (xu gF (53, 0) (some (a_1, xAi .int 4 (upd (upd (upd (fun _ => 0) 0 (iI (kI σ 3 0))) 1 (iI x)) 2 (iI y)))))) (by repeat rw [kmix_xuF _ _ _ _ rfl]; first | rw [xu_xu] | rfl) ?_
  refine x_dup hC dX2_isKept_18 (q := 19) rfl rfl ?_
  refine x_iconst hC dX2_isKept_19 (q := 20) rfl (v := (3)) (by decide) ?_
  refine x_iload_n hC dX2_isKept_20 (q := 21) rfl rfl ?_
  refine x_iast hC dX2_isKept_21 (q := 22) rfl (n := (53, 0)) rfl rfl (j := 3) rfl (by decide) (by decide) ?_
  refine x_geq (g' := kmix σ (xu gF (53, 0) (some (a_1, xAi .int 4 (upd (upd (upd (upd (fun _ => 0) 0 (iI (kI σ 3 0))) 1 (iI x)) 2 (iI y)) 3 (iI z)))))) (by repeat rw [kmix_xuF _ _ _ _ rfl]; first | rw [xu_xu] | rfl) ?_
  refine x_geq (g' := kmix σ (xu gF (53, 0) (some (a_1, xAi .int 4 (fun j => iI (kRow (kI σ 3 0) x y z j)))))) (by rw [kRow_fold]) ?_
  refine x_astorer hC dX2_isKept_22 (q := 24) rfl rfl ?_
  refine x_aloadr_n hC dX2_isKept_24 (q := 25) rfl rfl ?_
  refine x_get hC xf_X2_31_1 dX2_isKept_25 (q := 28) rfl (n := (0, 0)) rfl rfl ?_
  refine x_callV hC xv_X2_136 dX2_isKept_28 (q := 31) rfl rfl (m_J3_size h0 _ (n := (10, 0)) rfl) (nn := (10, 0)) rfl rfl rfl (Nat.le_of_ble_eq_true rfl) ⟨(Nat.le_of_ble_eq_true rfl), (Nat.le_of_ble_eq_true rfl)⟩ ⟨(Nat.le_of_ble_eq_true rfl), (Nat.le_of_ble_eq_true rfl)⟩ (fun v g1 hp => ?_)
  obtain ⟨rfl, hg1⟩ := hp
  replace hg1 := hg1.symm
  subst hg1
  refine x_bipush hC dX2_isKept_31 (q := 33) rfl (v := (40)) (by decide) ?_
  refine x_icmp_ne hC dX2_isKept_33 (q := 36) rfl (tgt := 45) rfl (fun h33 => ?_) (fun h33 => ?_)
  · have hc0 := hw.c63.1
    have hs0 : kA σ 63 0 = 0 := by omega
    have hsI : nI (kA σ 63 0) = 0 := by rw [hs0]; rfl
    refine x_aloadr_n hC dX2_isKept_45 (q := 46) rfl rfl ?_
    refine x_get hC xf_X2_31_1 dX2_isKept_46 (q := 49) rfl (n := (0, 0)) rfl rfl ?_
    refine x_aloadr hC dX2_isKept_49 (q := 51) rfl rfl ?_
    refine x_callV hC xv_X2_261 dX2_isKept_51 (q := 54) rfl rfl (m_J3_add_B h0 _ (n := (10, 0)) (nd := (11, 0)) (n2 := (53, 0)) (mc := iI (kI σ 16 0)) (d0 := kA σ 11 0) rfl rfl rfl (by decide) (by decide) (by decide) (by decide) (by rw [kmix_eq _ _ _ _ rfl]; show some (_, xO 21 [_, _, .int (nI (kA σ 63 0))]) = _; rw [hsI]) (by rw [kmix_eq _ _ _ _ rfl]; exact if_neg (by omega)) ⟨hz.1, hz.2⟩ rfl q2199) (nn := (10, 0)) rfl rfl rfl (Nat.le_of_ble_eq_true rfl) ⟨(Nat.le_of_ble_eq_true rfl), (Nat.le_of_ble_eq_true rfl)⟩ ⟨(Nat.le_of_ble_eq_true rfl), (Nat.le_of_ble_eq_true rfl)⟩ (fun v g1 hp => ?_)
    obtain ⟨d1, rfl, hg1⟩ := hp
    replace hg1 := hg1.symm
    subst hg1
    refine x_ren (53, 0) (12, kA σ 63 0) rfl rfl (by rw [xu_ne (by intro q; cases q), xu_ne (by intro q; cases q), kmix_eq _ _ _ _ rfl]; simp only [kenc]; exact if_neg (by have := hKR.1; omega)) ?_
    refine x_geq (g' := kmix (kTell σ d1 a_1 (kRow (kI σ 3 0) x y z)) gF) (by
      rw [← kTell_fold (N := 10) (F := va_up (fun _ => none) 0 (some a_1)) (mc := iI (kI σ 16 0) + 1) hKR (by rw [← iI_add]; rfl) (if_pos hs).symm (funext fun j => ?_) h53, hs0]
      · rfl
      · rw [hs0]
        simp only [va_up]
        by_cases e1 : j = 0
        · rw [if_pos e1, if_pos (by omega), if_pos e1]
        · rw [if_neg e1, if_neg (by omega)]) ?_
    refine x_pop hC dX2_isKept_54 (q := 55) rfl rfl ?_
    exact x_vret hC hr dX2_isKept_55 (Nat.le_of_ble_eq_true rfl) (Nat.le_of_ble_eq_true rfl) ⟨a_1, d1, rfl, fun q => absurd hs q, rfl⟩
  · exact absurd h33 (fun q => by have := (nI_eq (b := 40) (by omega) (by omega)).mp q; omega)
