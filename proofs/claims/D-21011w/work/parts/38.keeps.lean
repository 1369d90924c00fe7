/-! keeps: the acts -/
theorem xFi_grow {h : Nat → Nat} {n : Nat} : va_cpy (xFi h n) (fun _ => none) 0 0 n = xFi h n := by
  funext j
  unfold va_cpy xFi
  by_cases e : j < n
  · rw [if_pos (by omega), if_pos (by omega), if_pos e]
    simp
  · rw [if_neg (by omega), if_neg e]
/-- a list whose capacity is one of those that it grows through -/
def kCap (cap : Nat) : Prop := cap = 10 ∨ cap = 15 ∨ cap = 22
theorem m_add22 {l : Launch} {s0 : State} {D : va_G} (h0 : x0 l s0 D) (g : xG) {n nd nt n2 : xN} {a d d0 v sz cap : Nat} {mc : Int32} {x : xE} {h : Nat → Nat} (hd1 : Nat.blt n.1 1000 = true) (hd2 : Nat.blt nd.1 1000 = true) (hd3 : Nat.blt n2.1 1000 = true) (hdt : Nat.blt nt.1 1000 = true) (hne : n ≠ nd) (hn2 : n2 ≠ n) (hn3 : n2 ≠ nd) (hnt : g nt = none) (hl : g n = some (a, xO 21 [.int mc, .ref d, .int (nI sz)])) (hc : cap = 0 ∧ sz = 0 ∧ d = d0 ∧ g nd = none ∨ kCap cap ∧ sz ≤ cap ∧ g nd = some (d, xAr (.object "java/lang/Object") cap (xFi h sz))) (hs : sz < 20) (hel : ∀ t, t < sz → ∃ (n2 : xN) (x : xE), Nat.blt n2.1 1000 = true ∧ g n2 = some (h t, x) ∧ Cond.castable (xnm x) "java/lang/Object" ∈ lw_tbl) (hz : xE0 s0 g d0) (he : g n2 = some (v, x)) (hx : Cond.castable (xnm x) "java/lang/Object" ∈ lw_tbl) (hv : v = h sz) : xMet l s0 D yJ3_add cJ3_add 2 (some .boolean) (xr 9 1 22 330) [.ref a, .ref v] g (fun r g1 => ∃ d1 cap1, r = some (.int 1) ∧ kCap cap1 ∧ sz + 1 ≤ cap1 ∧ g1 = xu (xu g nd (some (d1, xAr (.object "java/lang/Object") cap1 (xFi h (sz + 1))))) n (some (a, xO 21 [.int (mc + 1), .ref d1, .int (nI (sz + 1))]))) := by
  obtain ⟨mi, hM⟩ := h0.mi
  have hel' : ∀ t, t < sz → ∀ y, xFi h sz t = some y → ∃ (n2 : xN) (x : xE), Nat.blt n2.1 1000 = true ∧ g n2 = some (y, x) ∧ Cond.castable (xnm x) "java/lang/Object" ∈ lw_tbl := by
    intro t ht y hy
    unfold xFi at hy
    rw [if_pos ht] at hy
    cases hy
    exact hel t ht
  rcases hc with ⟨rfl, rfl, rfl, hnd⟩ | ⟨hcap, hsc, ha⟩
  · have hn0 : n ≠ (1000, 0) := fun q => by rw [q] at hd1; cases hd1
    refine ((m_J3_add_B h0 g hd1 hd2 hd3 hne hn2 hn3 hn0 hl hnd hz he hx).room (rm' := xr 9 1 22 330) (Nat.le_refl _) (Nat.le_refl _) (Nat.le_of_ble_eq_true rfl) (Nat.le_refl _)).post (fun r g1 hp => ?_)
    obtain ⟨d1, h1, h2⟩ := hp
    refine ⟨d1, 10, h1, Or.inl rfl, by decide, ?_⟩
    rw [h2, ← xFi_up hv]
    rfl
  · by_cases e : sz < cap
    · have hcN : cap < 2147483648 := by rcases hcap with q | q | q <;> omega
      refine ((m_J3_add_A h0 g hd1 hd2 hd3 hne hn2 hl ha he hx e hcN).room (rm' := xr 9 1 22 330) (Nat.le_refl _) (Nat.zero_le _) (Nat.zero_le _) (Nat.le_refl _)).post (fun r g1 hp => ?_)
      refine ⟨d, cap, hp.1, hcap, e, ?_⟩
      rw [hp.2, xFi_up hv]
    · rcases hcap with q | q | q
      · subst q
        have e0 : sz = 10 := by omega
        subst e0
        refine ((m_J3_add_10 h0 g hM hd1 hd2 hdt hne hl ha hnt hel' hd3 hn2 hn3 he hx).room (rm' := xr 9 1 22 330) (Nat.le_refl _) (Nat.le_refl _) (Nat.le_of_ble_eq_true rfl) (Nat.le_refl _)).post (fun r g1 hp => ?_)
        obtain ⟨d1, h1, h2⟩ := hp
        refine ⟨d1, 15, h1, Or.inr (Or.inl rfl), by decide, ?_⟩
        rw [h2, ← xFi_up hv, xFi_grow]
        rfl
      · subst q
        have e0 : sz = 15 := by omega
        subst e0
        refine ((m_J3_add_15 h0 g hM hd1 hd2 hdt hne hl ha hnt hel' hd3 hn2 hn3 he hx).room (rm' := xr 9 1 22 330) (Nat.le_refl _) (Nat.le_refl _) (Nat.le_of_ble_eq_true rfl) (Nat.le_refl _)).post (fun r g1 hp => ?_)
        obtain ⟨d1, h1, h2⟩ := hp
        refine ⟨d1, 22, h1, Or.inr (Or.inr rfl), by decide, ?_⟩
        rw [h2, ← xFi_up hv, xFi_grow]
        rfl
      · omega
/-- an act in the making gets its names -/
def kSw (sz : Nat) (n : xN) : xN := if 30 ≤ n.1 ∧ n.1 ≤ 34 ∧ n.2 = sz then (n.1 + 18, 0) else if 48 ≤ n.1 ∧ n.1 ≤ 52 ∧ n.2 = 0 then (n.1 - 18, sz) else n
theorem kSw_inj (sz : Nat) (n k : xN) (h : kSw sz n = kSw sz k) : n = k := by
  obtain ⟨a, b⟩ := n
  obtain ⟨c, d⟩ := k
  unfold kSw at h
  dsimp only at h
  split at h <;> split at h <;> (try split at h) <;> (try split at h) <;> simp only [Prod.mk.injEq] at h ⊢ <;> omega
theorem kSw_lt (sz : Nat) (n : xN) (h : n.1 < 1000) : (kSw sz n).1 < 1000 := by
  unfold kSw
  split
  · dsimp only; omega
  · split
    · dsimp only; omega
    · exact h
theorem kSw_ge (sz : Nat) (n : xN) (h : 1000 ≤ n.1) : kSw sz n = n := by
  unfold kSw
  rw [if_neg (by omega), if_neg (by omega)]
def kPush (σ : KS) (a aw ah al d da cap : Nat) : KS := (fun f k => if f = 18 ∧ k = 0 then kI σ 18 0 + 1 else if k = kA σ 65 0 ∧ f = 21 then kI σ 3 0 else if k = kA σ 65 0 ∧ f = 22 then kI σ 7 0 else if k = kA σ 65 0 ∧ f = 23 then (kA σ 63 0 : Int) else σ.1 f k,
  fun f k => if f = 65 ∧ k = 0 then kA σ 65 0 + 1 else if f = 17 ∧ k = 0 then da else if f = 75 ∧ k = 0 then cap else if k = kA σ 65 0 ∧ f = 30 then a else if k = kA σ 65 0 ∧ f = 31 then aw else if k = kA σ 65 0 ∧ f = 32 then ah else if k = kA σ 65 0 ∧ f = 33 then al else if k = kA σ 65 0 ∧ f = 34 then d else if k = kA σ 65 0 ∧ f = 66 then kA σ 63 0 else if k = kA σ 65 0 ∧ f = 76 then (if kA σ 63 0 = 0 then 0 else 10) else σ.2.1 f k,
  σ.2.2.1, fun f k j => if k = kA σ 65 0 ∧ f = 5 then (kWf σ (kA σ 61 0) j).toInt else if k = kA σ 65 0 ∧ f = 6 then (kHf σ (kA σ 62 0) j).toInt else σ.2.2.2.1 f k j, σ.2.2.2.2)
theorem kI_kPush (σ : KS) (a aw ah al d da cap f k : Nat) : kI (kPush σ a aw ah al d da cap) f k = if f = 18 ∧ k = 0 then kI σ 18 0 + 1 else if k = kA σ 65 0 ∧ f = 21 then kI σ 3 0 else if k = kA σ 65 0 ∧ f = 22 then kI σ 7 0 else if k = kA σ 65 0 ∧ f = 23 then (kA σ 63 0 : Int) else kI σ f k := rfl
theorem kA_kPush (σ : KS) (a aw ah al d da cap f k : Nat) : kA (kPush σ a aw ah al d da cap) f k = if f = 65 ∧ k = 0 then kA σ 65 0 + 1 else if f = 17 ∧ k = 0 then da else if f = 75 ∧ k = 0 then cap else if k = kA σ 65 0 ∧ f = 30 then a else if k = kA σ 65 0 ∧ f = 31 then aw else if k = kA σ 65 0 ∧ f = 32 then ah else if k = kA σ 65 0 ∧ f = 33 then al else if k = kA σ 65 0 ∧ f = 34 then d else if k = kA σ 65 0 ∧ f = 66 then kA σ 63 0 else if k = kA σ 65 0 ∧ f = 76 then (if kA σ 63 0 = 0 then 0 else 10) else kA σ f k := rfl
theorem kV_kPush (σ : KS) (a aw ah al d da cap f k j : Nat) : kV (kPush σ a aw ah al d da cap) f k j = if k = kA σ 65 0 ∧ f = 5 then (kWf σ (kA σ 61 0) j).toInt else if k = kA σ 65 0 ∧ f = 6 then (kHf σ (kA σ 62 0) j).toInt else kV σ f k j := rfl
theorem kO_kPush (σ : KS) (a aw ah al d da cap : Nat) : kO (kPush σ a aw ah al d da cap) = kO σ := rfl
theorem kL_kPush (σ : KS) (a aw ah al d da cap : Nat) : kL (kPush σ a aw ah al d da cap) = kL σ := rfl
theorem kA_kPush20 (σ : KS) (a aw ah al d da cap : Nat) : kA (kPush σ a aw ah al d da cap) 20 = kA σ 20 := by funext k; simp [kA_kPush]
theorem kA_kPush21 (σ : KS) (a aw ah al d da cap : Nat) : kA (kPush σ a aw ah al d da cap) 21 = kA σ 21 := by funext k; simp [kA_kPush]
theorem kPush_sub {σ : KS} {gF : xG} {a aw ah al d da cap : Nat} {mc : Int32} (hmc : mc = iI (kI σ 18 0 + 1)) (hcap : kCap cap) (h48 : ∀ k, 48 ≤ k → k ≤ 52 → gF (k, 0) = none) (n : xN) (x : Nat × xE) (hx : kmix (kPush σ a aw ah al d da cap) gF n = some x) : xu (xu (kmix σ (kAF σ gF a aw ah al d (kA σ 63 0))) (17, 0) (some (da, xAr (.object "java/lang/Object") cap (xFi (fun j => if j = kA σ 65 0 then a else kA σ 30 j) (kA σ 65 0 + 1))))) (16, 0) (some (kA σ 16 0, xO 21 [.int mc, .ref da, .int (nI (kA σ 65 0 + 1))])) (kSw (kA σ 65 0) n) = some x := by
  subst hmc
  obtain ⟨k, i⟩ := n
  cases hb : Nat.blt k 40 with
  | false =>
    rw [kmix_F _ _ (k, i) hb] at hx
    have hk : 40 ≤ k := by
      have := Nat.ble_eq_true_of_le (n := k + 1) (m := 40)
      by_cases h : 40 ≤ k
      · exact h
      · rw [show Nat.blt k 40 = Nat.ble (k + 1) 40 from rfl, this (by omega)] at hb; cases hb
    have hno : ¬ (48 ≤ k ∧ k ≤ 52 ∧ i = 0) := fun q => by
      obtain ⟨q1, q2, q3⟩ := q
      subst q3
      rw [h48 k q1 q2] at hx; cases hx
    have e : kSw (kA σ 65 0) (k, i) = (k, i) := by unfold kSw; rw [if_neg (by dsimp only; omega), if_neg hno]
    have ne : ∀ a b, ¬ (a = k ∧ b = i) → (k, i) ≠ (a, b) := fun a b h q => h ⟨(congrArg Prod.fst q).symm, (congrArg Prod.snd q).symm⟩
    rw [e, xu_ne (ne _ _ (by omega)), xu_ne (ne _ _ (by omega)), kmix_F _ _ _ hb]
    unfold kAF
    rw [xu_ne (ne _ _ (by omega)), xu_ne (ne _ _ (by omega)), xu_ne (ne _ _ (by omega)), xu_ne (ne _ _ (by omega)), xu_ne (ne _ _ (by omega))]
    exact hx
  | true =>
    rw [kmix_eq _ _ _ _ hb] at hx
    rw [← hx]
    have hk : k < 40 := Nat.le_of_ble_eq_true hb
    by_cases h1 : 30 ≤ k ∧ k ≤ 34 ∧ i = kA σ 65 0
    · have e : kSw (kA σ 65 0) (k, i) = (k + 18, 0) := by unfold kSw; rw [if_pos h1]
      have ne : ∀ a b : Nat, a < 40 → (k + 18, 0) ≠ (a, b) := fun a b h q => by
        have := congrArg Prod.fst q
        dsimp only at this
        omega
      rw [e, xu_ne (ne _ _ (by decide)), xu_ne (ne _ _ (by decide))]
      obtain ⟨h2, h3, rfl⟩ := h1
      have hlt : kA σ 65 0 < kA (kPush σ a aw ah al d da cap) 65 0 := Nat.lt_succ_self _
      have hc : k = 30 ∨ k = 31 ∨ k = 32 ∨ k = 33 ∨ k = 34 := by omega
      rcases hc with rfl | rfl | rfl | rfl | rfl
      · rw [kmix_F _ _ _ rfl]
        simp only [kenc, if_pos hlt]
        simp [kAF, xu, kI_kPush, kA_kPush, kV_kPush, kO_kPush, kL_kPush]
      · rw [kmix_F _ _ _ rfl]
        simp only [kenc, if_pos hlt]
        simp [kAF, xu, kI_kPush, kA_kPush, kV_kPush, kO_kPush, kL_kPush, iI_self]
      · rw [kmix_F _ _ _ rfl]
        simp only [kenc, if_pos hlt]
        simp [kAF, xu, kI_kPush, kA_kPush, kV_kPush, kO_kPush, kL_kPush, iI_self]
      · rw [kmix_F _ _ _ rfl]
        simp only [kenc, if_pos hlt]
        simp [kAF, xu, kI_kPush, kA_kPush, kV_kPush, kO_kPush, kL_kPush, iI_nat]
      · rw [kmix_F _ _ _ rfl]
        simp only [kenc]
        by_cases h0 : kA σ 63 0 = 0
        · rw [if_neg (fun q => by
            have := q.2
            simp [kA_kPush, h0] at this)]
          simp [kAF, xu, h0]
        · rw [if_pos ⟨hlt, by simp [kA_kPush, h0]⟩]
          simp [kAF, xu, kA_kPush, h0]
          funext j
          unfold xFi
          by_cases hj : j < kA σ 63 0
          · simp [hj]
          · simp [hj]
    · have e : kSw (kA σ 65 0) (k, i) = (k, i) := by unfold kSw; rw [if_neg h1, if_neg (by dsimp only; omega)]
      rw [e]
      by_cases e2 : (k, i) = (16, 0)
      · cases e2
        rw [xu_eq]
        simp [kenc, kI_kPush, kA_kPush, kV_kPush, kO_kPush, kL_kPush]
      · rw [xu_ne e2]
        by_cases e3 : (k, i) = (17, 0)
        · cases e3
          rw [xu_eq]
          have hp : 0 < cap := by rcases hcap with q | q | q <;> omega
          simp [kenc, kI_kPush, kA_kPush, kV_kPush, kO_kPush, kL_kPush, hp]
          funext j
          simp [xFi]
        · rw [xu_ne e3, kmix_eq _ _ _ _ hb]
          by_cases e4 : 30 ≤ k ∧ k ≤ 34
          · have hi : i ≠ kA σ 65 0 := fun q => h1 ⟨e4.1, e4.2, q⟩
            have hi' : i ≠ σ.2.1 65 0 := hi
            have hlt : i < kA (kPush σ a aw ah al d da cap) 65 0 ↔ i < kA σ 65 0 := by
              show i < kA σ 65 0 + 1 ↔ _
              omega
            have hc : k = 30 ∨ k = 31 ∨ k = 32 ∨ k = 33 ∨ k = 34 := by omega
            by_cases hl : i < kA σ 65 0
            · have hl' := hlt.mpr hl
              rcases hc with rfl | rfl | rfl | rfl | rfl
              all_goals simp only [kenc, if_pos hl, if_pos hl', hl, hl', true_and]
              all_goals simp [kI_kPush, kA_kPush, kV_kPush, kO_kPush, kL_kPush, hi]
            · have hl' : ¬ i < kA (kPush σ a aw ah al d da cap) 65 0 := fun q => hl (hlt.mp q)
              rcases hc with rfl | rfl | rfl | rfl | rfl
              all_goals simp only [kenc, if_neg hl, if_neg hl', hl, hl', false_and, if_false]
          · unfold kenc
            split <;> simp [kA_kPush20, kA_kPush21, kI_kPush, kA_kPush, kV_kPush, kO_kPush, kL_kPush]
            all_goals (try rfl)
            all_goals (try (simp at e2 e3 e4))
            all_goals (try (split <;> first | rfl | (exfalso; simp_all; done) | skip))
