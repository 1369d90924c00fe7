/-! the law's entry: its call sites; the state behind town() -/
set_option maxRecDepth 100000
theorem xv_X0_327 : xSt RX0 327 yX0_stirred cX0_stirred 7 (some (.array .int)) 1 := ⟨lw_S q1296 q1297 q76 q1298, ⟨by decide +kernel, by decide +kernel, by decide +kernel⟩⟩
theorem xv_X0_331 : xIn RX0 331 yX1_init cX1_init 5 1 := ⟨lw_meth q1106, q77, q1104, q1105, rfl, ⟨by decide +kernel, by decide +kernel, by decide +kernel⟩⟩
theorem xv_X0_334 : xIn RX0 334 yX2_init cX2_init 1 0 := ⟨lw_meth q122, q79, q120, q121, rfl, ⟨by decide +kernel, by decide +kernel, by decide +kernel⟩⟩
theorem xv_X0_335 : xV RX0 335 RX1 yX1_text cX1_text 3 (some (.object "java/lang/String")) 0 := ⟨lw_V q1173 q1174 q1175 q77 q1176, ⟨rfl, by decide +kernel, by decide +kernel, by decide +kernel⟩⟩
theorem xv_X0_339 : xSt RX0 339 yX0_feed cX0_feed 4 (some .boolean) 2 := ⟨lw_S q1303 q1304 q76 q1305, ⟨by decide +kernel, by decide +kernel, by decide +kernel⟩⟩
theorem xv_X0_342 : xVW RX0 342 RX2 yX2_town cX2_town 3 (some .int) [(18, 68, 69, 128)] 0 := ⟨lw_VW q278 q279 q280 q79 q281, ⟨rfl, by decide +kernel, by decide +kernel, by decide +kernel⟩⟩
theorem xv_X0_345 : xSt RX0 345 yX0_begins cX0_begins 3 (some .boolean) 2 := ⟨lw_S q1362 q1363 q76 q1364, ⟨by decide +kernel, by decide +kernel, by decide +kernel⟩⟩
theorem xv_X0_348 : xSt RX0 348 yX0_acts cX0_acts 13 (some .boolean) 4 := ⟨lw_S q1593 q1594 q76 q1595, ⟨by decide +kernel, by decide +kernel, by decide +kernel⟩⟩
theorem xv_X0_352 : xSt RX0 352 yX0_isCounted cX0_isCounted 10 (some .boolean) 2 := ⟨lw_S q1520 q1521 q76 q1522, ⟨by decide +kernel, by decide +kernel, by decide +kernel⟩⟩
theorem xv_X0_355 : xSt RX0 355 yX0_areBrothers cX0_areBrothers 7 (some .boolean) 3 := ⟨lw_S q2079 q2080 q76 q2081, ⟨by decide +kernel, by decide +kernel, by decide +kernel⟩⟩
theorem xv_X0_359 : xSt RX0 359 yX0_isTold cX0_isTold 7 (some .boolean) 5 := ⟨lw_S q1528 q1529 q76 q1530, ⟨by decide +kernel, by decide +kernel, by decide +kernel⟩⟩
theorem xv_X0_363 : xSt RX0 363 yX0_areHeats cX0_areHeats 8 (some .boolean) 5 := ⟨lw_S q1576 q1577 q76 q1578, ⟨by decide +kernel, by decide +kernel, by decide +kernel⟩⟩
theorem xv_X0_367 : xSt RX0 367 yX0_isSeen cX0_isSeen 8 (some .boolean) 5 := ⟨lw_S q2082 q2083 q76 q2084, ⟨by decide +kernel, by decide +kernel, by decide +kernel⟩⟩
theorem xv_X0_370 : xSt RX0 370 yX0_isImage cX0_isImage 9 (some .boolean) 2 := ⟨lw_S q2105 q2106 q76 q2107, ⟨by decide +kernel, by decide +kernel, by decide +kernel⟩⟩

section TWN
variable {σ σ1 : KS} {gF gF1 : xG} {d0 N : Nat} {A : Nat → Nat} {b : Nat → Int} {α : aA}
theorem town_kF (hσ : σ = kTa (K00 A d0) b N) (h : KTown σ σ1 gF gF1 d0 (τA α) (aFo α)) (hok : aOk α) : kF gF1 σ1 (aFo α) := by
  obtain ⟨ht, la, da, lk, dk, mc, mk, fo, ca, ka, pa, sa, sb, rfl, -, -, hf, -, -, -, -⟩ := h
  obtain ⟨f0, f1, f2, f3⟩ := aFo_f α
  obtain ⟨-, -, k2, k3, k4, k5, -⟩ := hok
  intro j hj
  rcases hf j hj with q | ⟨a, fn, e1, e2, e3⟩
  · exact Or.inl q
  refine Or.inr ⟨a, fn, e1, e2, e3, ?_⟩
  have h4 : j = 0 ∨ j = 1 ∨ j = 2 ∨ j = 3 := by omega
  rcases h4 with rfl | rfl | rfl | rfl
  · rw [f0] at e2
    split at e2
    · cases e2
    · cases e2
      exact fVl_dep 0 _ (Or.inl ⟨rfl, by omega, by omega⟩)
  · rw [f1] at e2
    split at e2
    · cases e2
    · cases e2
      exact fVl_dep 1 _ (Or.inr (Or.inl ⟨rfl, by omega, by omega⟩))
  · rw [f2] at e2
    split at e2
    · cases e2
    · cases e2
      exact fVl_dep 2 _ (Or.inr (Or.inr (Or.inl ⟨rfl, by omega, by omega⟩)))
  · rw [f3] at e2
    split at e2
    · cases e2
    · cases e2
      exact fVl_dep 3 _ (Or.inr (Or.inr (Or.inr ⟨rfl, by omega, by omega⟩)))
theorem town_L0 {τ : tS} {F : Nat → Option (aEnv → Int64)} (hσ : σ = kTa (K00 A d0) b N) (h : KTown σ σ1 gF gF1 d0 τ F) (hok : aOk α) (hF : kF gF1 σ1 (aFo α)) (t0 : tnc τ = aI α 0) (t1 : tnk τ = aI α 1) (t2 : ∀ c, c < aI α 0 → tcl τ c = aCl α c ∧ tgr τ c = aGr α c) (t3 : ∀ q, q < aI α 1 → trm τ q = aRo α q) (t6 : tfu τ = aI α 6) (t7 : tlo τ = aI α 7) (t8 : twi τ = aI α 8) : LSt gF1 α d0 σ1 ∧ LB σ1 α ∧ kI σ1 3 0 = 0 ∧ kV σ1 1 0 3 = 0 ∧ kA σ1 0 0 = kA σ 0 0 := by
  obtain ⟨k0, k1, k2, k3, k4, k5, k6, k7, k8, kc, kg, kr⟩ := hok
  obtain ⟨ht, la, da, lk, dk, mc, mk, fo, ca, ka, pa, sa, sb, rfl, -, -, hf, -, -, -, -⟩ := h
  subst hσ
  have hW : KW (kTw (kTa (K00 A d0) b N) τ ht la da lk dk mc mk fo ca ka pa sa sb) := by
    refine ⟨?_, ?_, fun s s1 s2 => ?_, fun q hq => ?_, fun c q hc e => ?_, fun q p c hq e => ?_⟩
    · show tnc τ ≤ 8; omega
    · show tnk τ ≤ 3; omega
    · have hs : s = 61 ∨ s = 62 ∨ s = 63 ∨ s = 64 ∨ s = 65 := by omega
      rcases hs with rfl | rfl | rfl | rfl | rfl
      · show tnc τ ≤ (if tnc τ = 0 then 0 else 10) ∧ (if tnc τ = 0 then 0 else 10) < 1048576
        split <;> omega
      · show tnk τ ≤ (if tnk τ = 0 then 0 else 10) ∧ (if tnk τ = 0 then 0 else 10) < 1048576
        split <;> omega
      · exact ⟨Nat.zero_le _, by show (0 : Nat) < 1048576; decide⟩
      · exact ⟨Nat.zero_le _, by show (0 : Nat) < 1048576; decide⟩
      · exact ⟨Nat.zero_le _, by show (0 : Nat) < 1048576; decide⟩
    · have hq : q < tnk τ := hq
      show trm τ q ≤ 6
      rw [t3 q (by omega)]
      exact (kr q).2
    · exact absurd (show (none : Option Nat) = some q from e) (by simp)
    · exact absurd (show (none : Option Nat) = some c from e) (by simp)
  have hP : KPl (kTw (kTa (K00 A d0) b N) τ ht la da lk dk mc mk fo ca ka pa sa sb) := by
    refine ⟨fun q p c => ⟨fun e => ?_, fun e => ?_⟩, fun c q hc e => ?_, fun c hc e => rfl⟩
    · exact absurd (show (none : Option Nat) = some c from e) (by simp)
    · exact absurd (show (none : Option Nat) = some q from e.2.1) (by simp)
    · exact absurd (show (none : Option Nat) = some q from e) (by simp)
  have hbt : ∀ i, bt (iI 0) i = false := fun i => by
    have : iI 0 = (0 : Int32) := rfl
    rw [this]
    exact b_0 i
  refine ⟨⟨⟨hF, ⟨hW, fun c q hc e => absurd (show (none : Option Nat) = some q from e) (by simp)⟩, hP, ⟨fun c hc => ⟨⟨?_, ?_⟩, ⟨?_, ?_⟩, Or.inl rfl⟩, fun q hq => ⟨?_, ?_⟩⟩, ⟨rfl, fun i hi => absurd (show i < 0 from hi) (Nat.not_lt_zero i)⟩, Or.inl ⟨rfl, rfl, rfl⟩, ⟨Nat.zero_le _, Or.inl ⟨rfl, rfl, rfl⟩⟩, Nat.zero_le _, rfl⟩, ⟨t0, t1, fun c hc => ⟨?_, ?_⟩, fun q hq => t3 q hq⟩, ⟨?_, ?_⟩, fun c hc => ⟨fun i hi e => ?_, fun _ i hi => hbt i⟩, fun c q hc e => absurd (show (none : Option Nat) = some q from e) (by simp), Nat.zero_le _, ⟨?_, ?_⟩, fun c hc e => rfl, rfl, rfl, rfl, rfl, ⟨1, by decide, rfl⟩⟩, ⟨?_, rfl, rfl, rfl, fun q hq => rfl, fun c hc => ⟨rfl, rfl, rfl⟩⟩, rfl, rfl, rfl⟩
  · show (-1 : Int) ≤ -1; decide
  · show (-1 : Int) ≤ 99; decide
  · show (0 : Int) ≤ 0; decide
  · show (0 : Int) < 256; decide
  · show (-1 : Int) ≤ -1; decide
  · show (-1 : Int) ≤ 20; decide
  · show (tcl τ c : Int) = _; rw [(t2 c hc).1]
  · show (tgr τ c : Int) = _; rw [(t2 c hc).2]
  · show (tlo τ : Int) = _; rw [t7]
  · show (twi τ : Int) = _; rw [t8]
  · have e : bt (iI 0) i = true := e
    rw [hbt i] at e; cases e
  · show (0 : Int) ≤ (tfu τ : Int); omega
  · show (tfu τ : Int) ≤ 9999; omega
  · show (tfu τ : Int) = _; rw [t6]
theorem town_L (hσ : σ = kTa (K00 A d0) b N) (h : KTown σ σ1 gF gF1 d0 (τA α) (aFo α)) (hok : aOk α) : LSt gF1 α d0 σ1 ∧ LB σ1 α ∧ kI σ1 3 0 = 0 ∧ kV σ1 1 0 3 = 0 ∧ kA σ1 0 0 = kA σ 0 0 := by
  have hF := town_kF hσ h hok
  obtain ⟨t0, t1, t2, t3, t6, t7, t8⟩ := τA_f α
  exact town_L0 hσ h hok hF t0 t1 t2 t3 t6 t7 t8
end TWN
