/-! set, take, light, and the state between the acts -/
section MV
variable {gF : xG} {α : aA} {d0 : Nat} {σ ρ : KS}
/-- what one act moves -/
def Mv (σ ρ : KS) : Prop := kA ρ = kA σ ∧ (∀ f k, ¬ (f = 33 ∧ k < kA σ 61 0) → ¬ (f = 41 ∧ k < kA σ 62 0) → kI ρ f k = kI σ f k) ∧ (∀ q, q < kA σ 62 0 → -1 ≤ kI ρ 41 q ∧ kI ρ 41 q ≤ 20) ∧ kV ρ = kV σ ∧ kL ρ = kL σ ∧ (∀ f k j, f ≠ 1 → ¬ (f = 0 ∧ k < kA σ 61 0 ∧ j = 0) → kO ρ f k j = kO σ f k j) ∧ KV ρ ∧ KPl ρ ∧ ∀ c q, c < kA σ 61 0 → kO ρ 0 c 0 = some q → kI σ 34 c = -1
theorem Mv.I {f : Nat} (h : Mv σ ρ) (h1 : f ≠ 33) (h2 : f ≠ 41) (k : Nat) : kI ρ f k = kI σ f k := h.2.1 f k (fun w => h1 w.1) (fun w => h2 w.1)
theorem Mv.lst (h : Mv σ ρ) (hL : LSt gF α d0 σ) : LSt gF α d0 ρ := by
  have hI := fun f k (h1 : f ≠ 33) (h2 : f ≠ 41) => h.I (f := f) h1 h2 k
  obtain ⟨hA, -, h41, hV, hLL, hO, hKV, hP, hRw⟩ := h
  obtain ⟨⟨b1, b2, b3, b4, b5, b6, b7, b8, b9⟩, a2, a3, a4, a5, a6, a7, a8, a9, a10, a11, a12, s, a13, a14⟩ := hL
  refine ⟨⟨kF_on b1 (fun j => funext fun i => hO 2 j i (by decide) (fun w => absurd w.1 (by decide))), hKV, hP, ⟨fun c hc => ?_, fun q hq => ?_⟩, ?_, ?_, ?_, ?_, ?_⟩, a2.eq (by rw [hA]) (by rw [hA]) (fun c => hI 31 c (by decide) (by decide)) (fun c => hI 32 c (by decide) (by decide)) (fun q => by rw [hA]), ⟨(hI 8 0 (by decide) (by decide)).trans a3.1, (hI 9 0 (by decide) (by decide)).trans a3.2⟩, fun c hc => ?_, fun c q hc e => ?_, ?_, ?_, fun c hc e => ?_, (hI 0 0 (by decide) (by decide)).trans a9, by rw [hA]; exact a10, by rw [hA]; exact a11, by rw [hA]; exact a12, s, a13, by rw [hLL]; exact a14⟩
  · rw [hI 34 c (by decide) (by decide), hI 35 c (by decide) (by decide), hI 36 c (by decide) (by decide)]
    exact b4.1 c (by rw [← hA]; exact hc)
  · exact h41 q (by rw [← hA]; exact hq)
  · exact ⟨by rw [hA]; exact b5.1, fun i hi => by rw [hA] at hi ⊢; exact b5.2 i hi⟩
  · unfold KTc; rw [hA]; exact b6
  · unfold KAc; rw [hA]; exact b7
  · rw [hA]; exact b8
  · rw [hI 4 0 (by decide) (by decide)]; exact b9
  · rw [hA] at hc ⊢
    rw [hI 35 c (by decide) (by decide), hI 34 c (by decide) (by decide)]
    refine ⟨fun i hi hb => ?_, (a4 c hc).2⟩
    rw [hI 35 i (by decide) (by decide)]
    exact (a4 c hc).1 i hi hb
  · rw [hI 34 c (by decide) (by decide)]
    exact hRw c q (by rw [← hA]; exact hc) e
  · rw [hA]
    exact Nat.le_trans a6 (Nat.le_of_eq (sm_ext (fun c _ => by rw [hI 34 c (by decide) (by decide)])))
  · rw [hI 7 0 (by decide) (by decide)]; exact a7
  · rw [hI 34 c (by decide) (by decide)] at e
    rw [hI 36 c (by decide) (by decide)]
    exact a8 c (by rw [← hA]; exact hc) e
theorem Mv.af (h : Mv σ ρ) (hL : LSt gF α d0 σ) : Af σ ρ d0 := by
  obtain ⟨hA, hI, h41, hV, hLL, hO, hKV, hP, hRw⟩ := h
  refine ⟨fun f k _ _ _ _ => by rw [hA], fun f k _ hm => hI f k (fun w => hm (mv33 (by rw [w.1]; decide) w.2)) (fun w => hm (by rw [w.1]; exact mv41 w.2)), hO, fun f k j _ => by rw [hV], ?_, by rw [hA]; exact Nat.le_refl _, fun k _ => by rw [hV], hKV, hP, ?_⟩
  · have := hL.1.2.2.2.2.2.1
    unfold KTc
    rw [hA]
    exact this
  · rw [hI 4 0 (fun w => absurd w.1 (by decide)) (fun w => absurd w.1 (by decide))]
    exact hL.1.2.2.2.2.2.2.2.2
theorem Mv.ar (h : Mv σ ρ) (hL : LSt gF α d0 σ) : AR gF α d0 σ ρ := ⟨h.lst hL, by rw [h.1], fun c _ _ => h.I (by decide) (by decide) c, by rw [h.I (f := 3) (by decide) (by decide) 0]; exact Int.le_refl _, by rw [h.I (f := 3) (by decide) (by decide) 0]; omega, by rw [h.2.2.2.1]; exact Int.le_refl _, by rw [h.2.2.2.1]; omega, fun j => funext fun i => h.2.2.2.2.2.1 2 j i (by decide) (fun w => absurd w.1 (by decide))⟩
theorem kGo_L (σ : KS) (c : Nat) : kL (kGo σ c) = kL σ := by
  unfold kGo
  cases kO σ 0 c 0 <;> rfl
theorem kGo_O (σ : KS) (c : Nat) {f k j : Nat} (h1 : f ≠ 1) (h2 : ¬ (f = 0 ∧ k = c ∧ j = 0)) : kO (kGo σ c) f k j = kO σ f k j := by
  unfold kGo
  cases kO σ 0 c 0 with
  | none => exact if_neg h2
  | some q =>
    show (if f = 0 ∧ k = c ∧ j = 0 then none else if f = 1 ∧ k = q ∧ j = (kI σ 33 c).toNat then none else kO σ f k j) = _
    rw [if_neg h2, if_neg (fun w => h1 w.1)]
theorem kGo_O1 (σ : KS) (c q p : Nat) (h : kO σ 1 q p = none) : kO (kGo σ c) 1 q p = none := by
  unfold kGo
  cases kO σ 0 c 0 with
  | none =>
    show (if (1 : Nat) = 0 ∧ q = c ∧ p = 0 then none else kO σ 1 q p) = none
    rw [if_neg (fun w => absurd w.1 (by decide))]; exact h
  | some q0 =>
    show (if (1 : Nat) = 0 ∧ q = c ∧ p = 0 then none else if (1 : Nat) = 1 ∧ q = q0 ∧ p = (kI σ 33 c).toNat then none else kO σ 1 q p) = none
    rw [if_neg (fun w => absurd w.1 (by decide))]
    split
    · rfl
    · exact h
theorem kGo_0 (σ : KS) (c : Nat) : kO (kGo σ c) 0 c 0 = none := by
  unfold kGo
  cases kO σ 0 c 0 with
  | none => exact if_pos ⟨rfl, rfl, rfl⟩
  | some q => exact if_pos ⟨rfl, rfl, rfl⟩
/-- who has no place is put on one -/
theorem KPl_put {τ : KS} (h : KPl τ) {c q p : Nat} (hc : c < kA τ 61 0) (hq : q < kA τ 62 0) (hp : p < kA τ 25 q) (h0 : kO τ 0 c 0 = none) (h1 : kO τ 1 q p = none) : KPl (kOs (kIs (kOs τ 0 c 0 (some q)) 33 c p) 1 q p (some c)) := by
  have gO1 : ∀ q' p', kO (kOs (kIs (kOs τ 0 c 0 (some q)) 33 c p) 1 q p (some c)) 1 q' p' = if q' = q ∧ p' = p then some c else kO τ 1 q' p' := fun q' p' => by
    rw [kO_kOs]
    by_cases e : q' = q ∧ p' = p
    · rw [if_pos ⟨rfl, e⟩, if_pos e]
    · rw [if_neg (fun w => e w.2), if_neg e, kO_kIs, kO_kOs, if_neg (fun w => absurd w.1 (by decide))]
  have gO0 : ∀ d, kO (kOs (kIs (kOs τ 0 c 0 (some q)) 33 c p) 1 q p (some c)) 0 d 0 = if d = c then some q else kO τ 0 d 0 := fun d => by
    rw [kO_kOs, if_neg (fun w => absurd w.1 (by decide)), kO_kIs, kO_kOs]
    by_cases e : d = c
    · rw [if_pos ⟨rfl, e, rfl⟩, if_pos e]
    · rw [if_neg (fun w => e w.2.1), if_neg e]
  have gI : ∀ d, kI (kOs (kIs (kOs τ 0 c 0 (some q)) 33 c p) 1 q p (some c)) 33 d = if d = c then (p : Int) else kI τ 33 d := fun d => by
    rw [kI_kOs, kI_kIs]
    by_cases e : d = c
    · rw [if_pos ⟨rfl, e⟩, if_pos e]
    · rw [if_neg (fun w => e w.2), if_neg e]; rfl
  have gA : kA (kOs (kIs (kOs τ 0 c 0 (some q)) 33 c p) 1 q p (some c)) = kA τ := rfl
  refine ⟨fun q' p' d => ?_, fun d q' hd e => ?_, fun d hd e => ?_⟩
  · rw [gO1, gO0, gI, gA]
    by_cases e : q' = q ∧ p' = p
    · rw [if_pos e]
      constructor
      · intro w; cases w
        rw [if_pos rfl, if_pos rfl, e.1, e.2]
        exact ⟨hc, rfl, rfl⟩
      · rintro ⟨a, b, w⟩
        by_cases e2 : d = c
        · rw [e2]
        · rw [if_neg e2] at b w
          have := (h.1 q' p' d).mpr ⟨a, b, w⟩
          rw [e.1, e.2, h1] at this
          cases this
    · rw [if_neg e]
      by_cases e2 : d = c
      · subst e2
        rw [if_pos rfl, if_pos rfl]
        constructor
        · intro w
          have := ((h.1 q' p' d).mp w).2.1
          rw [h0] at this; cases this
        · rintro ⟨a, b, w⟩
          exact absurd ⟨(Option.some.inj b).symm, by omega⟩ e
      · rw [if_neg e2, if_neg e2]
        exact h.1 q' p' d
  · rw [gA] at hd
    rw [gO0] at e
    rw [gA, gI]
    by_cases e2 : d = c
    · rw [if_pos e2] at e ⊢
      cases e
      exact ⟨hq, p, hp, rfl⟩
    · rw [if_neg e2] at e ⊢
      exact h.2.1 d q' hd e
  · rw [gA] at hd
    rw [gO0] at e
    rw [gI]
    by_cases e2 : d = c
    · rw [if_pos e2] at e; cases e
    · rw [if_neg e2] at e ⊢
      exact h.2.2 d hd e
theorem kV_of_Pl {τ : KS} (hw : KW τ) (hp : KPl τ) : KV τ := ⟨hw, fun c q hc e => by
  obtain ⟨a, p, b, d⟩ := hp.2.1 c q hc e
  exact ⟨p, by have := hw.2.2.2.1 q a; omega, d⟩⟩
theorem Mv_set (hL : LSt gF α d0 σ) {c q p : Nat} (hc : c < kA σ 61 0) (hq : q < kA σ 62 0) (hp : p < kA σ 25 q) (hr : kI σ 34 c = -1) (hn : kO σ 1 q p = none) : Mv σ (kSet σ c q p) := by
  obtain ⟨⟨hF, hv, hP, hN, hR, hT, hAc, h7, h4⟩, hl, hLW, hM, hRw, -⟩ := hL
  have hPg := KPl_go hP hc
  have hA := kGo_Ax σ c
  have hP2 : KPl (kSet σ c q p) := KPl_put hPg (by rw [hA]; exact hc) (by rw [hA]; exact hq) (by rw [hA]; exact hp) (kGo_0 σ c) (kGo_O1 σ c q p hn)
  refine ⟨hA, fun f k h1 h2 => ?_, fun q2 hq2 => by rw [kSet_I σ c q p (by decide)]; exact hN.2 q2 hq2, kGo_Vx σ c, kGo_L σ c, fun f k j h1 h2 => ?_, kV_of_Pl (kSet_W hv hc hq) hP2, hP2, fun d r hd e => ?_⟩
  · by_cases e : f = 33
    · subst e
      have hk : k ≠ c := fun w => h1 ⟨rfl, by rw [w]; exact hc⟩
      show (if (33 : Nat) = 33 ∧ k = c then (p : Int) else kI (kGo σ c) 33 k) = _
      rw [if_neg (fun w => hk w.2), kGo_33 σ hk]
    · exact kSet_I σ c q p e k
  · show (if f = 1 ∧ k = q ∧ j = p then some c else if f = 0 ∧ k = c ∧ j = 0 then some q else kO (kGo σ c) f k j) = _
    rw [if_neg (fun w => h1 w.1), if_neg (fun w => h2 ⟨w.1, by rw [w.2.1]; exact hc, w.2.2⟩), kGo_O σ c h1 (fun w => h2 ⟨w.1, by rw [w.2.1]; exact hc, w.2.2⟩)]
  · by_cases e2 : d = c
    · rw [e2]; exact hr
    · have e3 : kO (kSet σ c q p) 0 d 0 = kO σ 0 d 0 := (if_neg (fun w => e2 w.2.1)).trans (kGo_O0 σ e2)
      rw [e3] at e
      exact hRw d r hd e
theorem Mv_take (hL : LSt gF α d0 σ) {c : Nat} (hc : c < kA σ 61 0) : Mv σ (kGo σ c) := by
  obtain ⟨⟨hF, hv, hP, hN, hR, hT, hAc, h7, h4⟩, hl, hLW, hM, hRw, -⟩ := hL
  have hPg := KPl_go hP hc
  have hA := kGo_Ax σ c
  refine ⟨hA, fun f k h1 h2 => ?_, fun q2 hq2 => by rw [kGo_Ix σ c (by decide)]; exact hN.2 q2 hq2, kGo_Vx σ c, kGo_L σ c, fun f k j h1 h2 => kGo_O σ c h1 (fun w => h2 ⟨w.1, by rw [w.2.1]; exact hc, w.2.2⟩), kGo_V hv c, hPg, fun d r hd e => ?_⟩
  · by_cases e : f = 33
    · subst e
      exact kGo_33 σ (fun w => h1 ⟨rfl, by rw [w]; exact hc⟩)
    · exact kGo_Ix σ c e k
  · by_cases e2 : d = c
    · subst e2; rw [kGo_0] at e; cases e
    · rw [kGo_O0 σ e2] at e
      exact hRw d r hd e
theorem Mv_light (hL : LSt gF α d0 σ) {q : Nat} {z : Int} (hq : q < kA σ 62 0) (hz : -1 ≤ z ∧ z ≤ 20) : Mv σ (kIs σ 41 q z) := by
  obtain ⟨⟨hF, hv, hP, hN, hR, hT, hAc, h7, h4⟩, hl, hLW, hM, hRw, -⟩ := hL
  refine ⟨rfl, fun f k h1 h2 => ?_, fun q2 hq2 => ?_, rfl, rfl, fun _ _ _ _ _ => rfl, KV_kIs hv (by decide) _ _, KPl_is hP (by decide) _ _, fun d r hd e => hRw d r hd e⟩
  · rw [kI_kIs, if_neg (fun w => h2 ⟨w.1, by rw [w.2]; exact hq⟩)]
  · rw [kI_kIs]
    split
    · exact hz
    · exact hN.2 q2 hq2
end MV
/-- one more refusal -/
theorem LSt.rf {gF : xG} {α : aA} {d0 : Nat} {σ : KS} (h : LSt gF α d0 σ) : LSt gF α d0 (kRf σ) := h
theorem AR.rf {gF : xG} {α : aA} {d0 : Nat} {σ : KS} (h : LSt gF α d0 σ) : AR gF α d0 σ (kRf σ) := ⟨h.rf, rfl, fun _ _ _ => rfl, Int.le_refl _, by show kI σ 3 0 ≤ kI σ 3 0 + 5; omega, by rw [kRf_3]; omega, by rw [kRf_3]; exact Int.le_refl _, fun _ => rfl⟩
/-- an act is done -/
def Dn (gF : xG) (α : aA) (d0 : Nat) (σ ρ : KS) : Prop := ∃ σ1, kKp σ σ1 d0 ∧ LSt gF α d0 σ1 ∧ Mv σ1 ρ ∧ AR gF α d0 σ ρ
theorem Dn.mk {gF : xG} {α : aA} {d0 : Nat} {σ σ1 ρ : KS} (hL : LSt gF α d0 σ) (hk : kKp σ σ1 d0) (hm : Mv σ1 ρ) : Dn gF α d0 σ ρ := ⟨σ1, hk, hk.LSt hL, hm, (hm.ar (hk.LSt hL)).bk hk.Bk⟩
theorem m_undo_D {l : Launch} {s0 : State} {D : va_G} (h0 : x0 l s0 D) (gF : xG) {σ ρ : KS} {d0 : Nat} {α : aA} (hFo : KFo s0 gF d0) (hL : LSt gF α d0 σ) (hD : Dn gF α d0 σ ρ) : xMet l s0 D yX2_undo cX2_undo 1 (some .boolean) (xr 14 0 0 500) [.ref (kA ρ 0 0)] (kmix ρ gF) (fun r g1 => ∃ σ2, r = some (.int 1) ∧ g1 = kmix σ2 gF ∧ LSt gF α d0 σ2 ∧ Bk σ σ2) := by
  obtain ⟨σ1, hk, hL1, hm, hAR⟩ := hD
  refine (m_undo h0 ρ gF hL.1 hFo hk (hm.af hL1)).post ?_
  rintro r g1 ⟨σ2, a, b, c, d, e⟩
  obtain ⟨-, -, -, -, -, -, -, -, -, -, -, -, s, h1, h2⟩ := hAR.1
  exact ⟨σ2, a, b, hL.bk d c ⟨s, h1, by rw [e]; exact h2⟩, d⟩
