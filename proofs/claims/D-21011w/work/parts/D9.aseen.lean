/-! Ahead: what it has seen -/
def LV2 (F : Nat → Option (aEnv → Int64)) (σ : KS) (V : Nat → Nat → Int32) (q : Nat) : Prop := V 5 q = nI (kA σ 25 q) ∧ V 6 q = nI (kFull σ q) ∧ V 7 q = iI (kI σ 41 q) ∧ V 8 q = (if iI (kI σ 41 q) = -1 then -1 else kBurn F σ q) ∧ kFnd F σ q 40 (V 9 q)
def LV3 (F : Nat → Option (aEnv → Int64)) (σ : KS) (V : Nat → Nat → Int32) (c : Nat) : Prop := DC σ V c ∧ V 14 c = iI (kI (kGs F (kIs σ 4 0 1) 1) 34 c)
def LVg (F : Nat → Option (aEnv → Int64)) (σ : KS) (M : Nat → Nat → Nat → Int32) (c n : Nat) : Prop := ∀ q, kO σ 0 c 0 = some q → 0 ≤ kI σ 41 q → ∀ i, i < n → M 16 c i = kTemp F σ c (iI (min 20 (kI σ 41 q + (i : Nat)))) (iI (kI σ 33 c)) ∧ M 17 c i = (if kCrack F σ c (iI (min 20 (kI σ 41 q + (i : Nat)))) (iI (kI σ 33 c)) = 0 then 0 else 1)
/-- what stands so far: the first R kept rows, Q kilns, C children -/
def AI (F : Nat → Option (aEnv → Int64)) (σ : KS) (V : Nat → Nat → Int32) (M : Nat → Nat → Nat → Int32) (R Q C : Nat) : Prop := (∀ k, k < R → ∀ j, j < 4 → M 18 k j = iI (kV σ 2 k j)) ∧ (∀ q, q < Q → LV2 F σ V q) ∧ ∀ c, c < C → LV3 F σ V c ∧ LVg F σ M c 4
section AIS
variable {F : Nat → Option (aEnv → Int64)} {σ : KS} {V : Nat → Nat → Int32} {M : Nat → Nat → Nat → Int32} {R Q C : Nat}
theorem AI.k18 (h : AI F σ V M R 0 0) {k j : Nat} (hk : R ≤ k) {v : Int32} : AI F σ V (k3s M 18 k j v) R 0 0 := by
  refine ⟨fun i hi m hm => ?_, fun q hq => absurd hq (Nat.not_lt_zero _), fun q hq => absurd hq (Nat.not_lt_zero _)⟩
  show (k2s (M 18) k j v) i m = _
  rw [k2s_ne _ _ _ _ (by omega)]
  exact h.1 i hi m hm
theorem AI.row (h : AI F σ V M R 0 0) (h2 : ∀ j, j < 4 → M 18 R j = iI (kV σ 2 R j)) : AI F σ V M (R + 1) 0 0 := by
  refine ⟨fun i hi m hm => ?_, h.2⟩
  by_cases e : i = R
  · subst e; exact h2 m hm
  · exact h.1 i (by omega) m hm
theorem LV2.eq {V1 : Nat → Nat → Int32} {q : Nat} (h : LV2 F σ V q) (e : ∀ k, k < 10 → V1 k q = V k q) : LV2 F σ V1 q := by
  unfold LV2
  rw [e 5 (by decide), e 6 (by decide), e 7 (by decide), e 8 (by decide), e 9 (by decide)]
  exact h
theorem LV3.eq {V1 : Nat → Nat → Int32} {q : Nat} (h : LV3 F σ V q) (e : ∀ k, 10 ≤ k → V1 k q = V k q) : LV3 F σ V1 q := by
  unfold LV3 DC
  rw [e 10 (by decide), e 11 (by decide), e 12 (by decide), e 13 (by decide), e 14 (by decide), e 15 (by decide)]
  exact h
theorem k2s_at (t : Nat → Nat → Int32) (c p : Nat) (v : Int32) : k2s t c p v c p = v := if_pos ⟨rfl, rfl⟩
theorem k2s_p (t : Nat → Nat → Int32) (c p : Nat) (v : Int32) {j q : Nat} (h : q ≠ p) : k2s t c p v j q = t j q := if_neg (fun w => h w.2)
theorem k2s_c (t : Nat → Nat → Int32) (c p : Nat) (v : Int32) {j q : Nat} (h : j ≠ c) : k2s t c p v j q = t j q := if_neg (fun w => h w.1)
theorem AI.kq (h : AI F σ V M R Q 0) {a b c d e : Int32} (ha : a = nI (kA σ 25 Q)) (hb : b = nI (kFull σ Q)) (hc : c = iI (kI σ 41 Q)) (hd : d = (if iI (kI σ 41 Q) = -1 then -1 else kBurn F σ Q)) (he : kFnd F σ Q 40 e) : AI F σ (k2s (k2s (k2s (k2s (k2s V 5 Q a) 6 Q b) 7 Q c) 8 Q d) 9 Q e) M R (Q + 1) 0 := by
  refine ⟨h.1, fun q hq => ?_, fun q hq => absurd hq (Nat.not_lt_zero _)⟩
  by_cases w : q = Q
  · subst w
    refine ⟨?_, ?_, ?_, ?_, ?_⟩
    · rw [k2s_c _ _ _ _ (by decide), k2s_c _ _ _ _ (by decide), k2s_c _ _ _ _ (by decide), k2s_c _ _ _ _ (by decide), k2s_at]; exact ha
    · rw [k2s_c _ _ _ _ (by decide), k2s_c _ _ _ _ (by decide), k2s_c _ _ _ _ (by decide), k2s_at]; exact hb
    · rw [k2s_c _ _ _ _ (by decide), k2s_c _ _ _ _ (by decide), k2s_at]; exact hc
    · rw [k2s_c _ _ _ _ (by decide), k2s_at]; exact hd
    · rw [k2s_at]; exact he
  · refine (h.2.1 q (by omega)).eq (fun k _ => ?_)
    rw [k2s_p _ _ _ _ w, k2s_p _ _ _ _ w, k2s_p _ _ _ _ w, k2s_p _ _ _ _ w, k2s_p _ _ _ _ w]
theorem AI.kc (h : AI F σ V M R Q C) {k : Nat} (hk : 10 ≤ k) {v : Int32} : AI F σ (k2s V k C v) M R Q C := by
  refine ⟨h.1, fun q hq => (h.2.1 q hq).eq (fun i hi => k2s_c _ _ _ _ (by omega)), fun c hc => ⟨(h.2.2 c hc).1.eq (fun i _ => k2s_p _ _ _ _ (by omega)), (h.2.2 c hc).2⟩⟩
theorem LV3.mk (V : Nat → Nat → Int32) (C : Nat) {a b z c d e : Int32} (ha : a = kKil σ C) (hb : b = iI (kI σ 33 C)) (hz : z = (if iI (kI σ 34 C) = -1 then 1 else 0)) (hc : c = iI (kI σ 34 C)) (hd : (iI (kI σ 34 C) = -1 → d = 0) ∧ (¬ iI (kI σ 34 C) = -1 → kBr σ C d)) (he : e = iI (kI (kGs F (kIs σ 4 0 1) 1) 34 C)) : LV3 F σ (k2s (k2s (k2s (k2s (k2s (k2s V 10 C a) 11 C b) 15 C z) 12 C c) 13 C d) 14 C e) C := by
  refine ⟨⟨?_, ?_, ?_, ?_, ?_, ?_⟩, ?_⟩
  · rw [k2s_c _ _ _ _ (by decide), k2s_c _ _ _ _ (by decide), k2s_c _ _ _ _ (by decide), k2s_c _ _ _ _ (by decide), k2s_c _ _ _ _ (by decide), k2s_at]; exact ha
  · rw [k2s_c _ _ _ _ (by decide), k2s_c _ _ _ _ (by decide), k2s_c _ _ _ _ (by decide), k2s_c _ _ _ _ (by decide), k2s_at]; exact hb
  · rw [k2s_c _ _ _ _ (by decide), k2s_c _ _ _ _ (by decide), k2s_at]; exact hc
  · rw [k2s_c _ _ _ _ (by decide), k2s_c _ _ _ _ (by decide), k2s_c _ _ _ _ (by decide), k2s_at]; exact hz
  · rw [k2s_c _ _ _ _ (by decide), k2s_at]; exact hd.1
  · rw [k2s_c _ _ _ _ (by decide), k2s_at]; exact hd.2
  · rw [k2s_at]; exact he
theorem AI.km (h : AI F σ V M R Q C) {t : Nat} (ht : t < 18) {j : Nat} {v : Int32} : AI F σ V (k3s M t C j v) R Q C := by
  have e : ∀ t1 c1 i, ¬ c1 = C → k3s M t C j v t1 c1 i = M t1 c1 i := fun t1 c1 i w => by
    unfold k3s
    by_cases e : t1 = t
    · subst e; rw [if_pos rfl, show k2s (M t1) C j v c1 i = M t1 c1 i from if_neg (fun q => w q.1)]
    · rw [if_neg e]
  refine ⟨fun k hk i hi => ?_, h.2.1, fun c hc => ⟨(h.2.2 c hc).1, fun q e1 e2 i hi => ?_⟩⟩
  · rw [show k3s M t C j v 18 = M 18 from if_neg (by omega)]; exact h.1 k hk i hi
  · rw [e 16 c i (by omega), e 17 c i (by omega)]; exact (h.2.2 c hc).2 q e1 e2 i hi
theorem AI.child (h : AI F σ V M R Q C) (h1 : LV3 F σ V C) (h2 : LVg F σ M C 4) : AI F σ V M R Q (C + 1) := by
  refine ⟨h.1, h.2.1, fun c hc => ?_⟩
  by_cases e : c = C
  · subst e; exact ⟨h1, h2⟩
  · exact h.2.2 c (by omega)
theorem LVg.step {c n q : Nat} (h : LVg F σ M c n) (hq : kO σ 0 c 0 = some q) {a b : Int32} (ha : a = kTemp F σ c (iI (min 20 (kI σ 41 q + (n : Nat)))) (iI (kI σ 33 c))) (hb : b = (if kCrack F σ c (iI (min 20 (kI σ 41 q + (n : Nat)))) (iI (kI σ 33 c)) = 0 then 0 else 1)) : LVg F σ (k3s (k3s M 16 c n a) 17 c n b) c (n + 1) := by
  intro q2 e1 e2 i hi
  rw [hq] at e1
  cases e1
  show (k2s (M 16) c n a) c i = _ ∧ (k2s (M 17) c n b) c i = _
  by_cases w : i = n
  · subst w
    rw [k2s_at, k2s_at]
    exact ⟨ha, hb⟩
  · rw [k2s_p _ _ _ _ w, k2s_p _ _ _ _ w]
    exact h q hq e2 i (by omega)
end AIS
theorem mn20 {h : Int} {g : Nat} (h0 : -1 ≤ h ∧ h ≤ 20) (hg : g < 4) : (if iI h + nI g < 20 then iI h + nI g else 20) = iI (min 20 (h + (g : Nat))) := by
  rw [← iI_nat g, iI_add, show (20 : Int32) = iI 20 from rfl]
  by_cases e : h + (g : Int) < 20
  · rw [if_pos ((iI_lt (b := 20) ⟨by omega, by omega⟩ ⟨by decide, by decide⟩).mpr e), show min 20 (h + (g : Int)) = h + (g : Int) by omega]
  · rw [if_neg (fun w => e ((iI_lt (b := 20) ⟨by omega, by omega⟩ ⟨by decide, by decide⟩).mp w)), show min 20 (h + (g : Int)) = 20 by omega]
theorem m_bro2 {l : Launch} {s0 : State} {D : va_G} (h0 : x0 l s0 D) (σ : KS) (gF : xG) (hw : KW σ) (c : Nat) (hc : c < kA σ 61 0) : xMet l s0 D yX2_brothers cX2_brothers 6 (some .int) (xr 5 0 0 106) [.ref (kA σ 0 0), .int (nI c)] (kmix σ gF) (fun r g1 => ∃ S, r = some (.int S) ∧ ((iI (kI σ 34 c) = -1 → S = 0) ∧ (¬ iI (kI σ 34 c) = -1 → kBr σ c S)) ∧ g1 = kmix σ gF) := by
  by_cases h : iI (kI σ 34 c) = -1
  · refine (m_X2_brothers_r h0 σ gF hw c hc h).post ?_
    rintro r g1 ⟨rfl, e⟩
    exact ⟨0, rfl, ⟨fun _ => rfl, fun w => absurd h w⟩, e⟩
  · refine (m_X2_brothers_f h0 σ gF hw c hc h).post ?_
    rintro r g1 ⟨S, rfl, e1, e2⟩
    exact ⟨S, rfl, ⟨fun w => absurd w h, fun _ => e1⟩, e2⟩
theorem m_fired5 {l : Launch} {s0 : State} {D : va_G} (h0 : x0 l s0 D) (σ : KS) (gF : xG) (y : Int) (f : aEnv) {F : Nat → Option (aEnv → Int64)} {d0 : Nat} (hG : KSt gF F d0 σ) (hFo : KFo s0 gF d0) (hwk : 0 ≤ kI σ 3 0 ∧ kI σ 3 0 ≤ 900) (kq : Nat) (hq : kq < kA σ 62 0) : xMet l s0 D yX2_fired cX2_fired 5 (some .int) (xr 42 2643 16488 1950) [.ref (kA σ 0 0), .int (nI kq)] (kmix (kT (kIs σ 5 0 y) f) gF) (fun r g1 => ∃ f1 y1 x, r = some (.int x) ∧ kFnd F σ kq 40 x ∧ g1 = kmix (kT (kIs σ 5 0 y1) f1) gF) := by
  refine (m_X2_fired h0 (kIs σ 5 0 y) gF f (hG.i5 y) hFo hwk kq hq).post ?_
  rintro r g1 ⟨f1, y1, x, h1, h2, h3⟩
  exact ⟨f1, y1, x, h1, kFnd_E (kEy_is σ rfl 0 y) h2, by rw [h3, kIs_kIs]⟩
theorem m_later5 {l : Launch} {s0 : State} {D : va_G} (h0 : x0 l s0 D) (σ : KS) (gF : xG) (y : Int) (f : aEnv) {F : Nat → Option (aEnv → Int64)} {d0 : Nat} (hG : KSt gF F d0 σ) (hFo : KFo s0 gF d0) (ch : Nat) (hc : ch < kA σ 61 0) (n1 : Nat) (hn1 : n1 ≤ 40) (hwk : 0 ≤ kI σ 3 0 ∧ kI σ 3 0 + n1 ≤ 999) (hL0 : gF (2000, 0) = none) : xMet l s0 D yX2_later cX2_later 4 (some .int) (xr 54 (4 + 66 * n1) (49 + 411 * n1) 3100) [.ref (kA σ 0 0), .int (nI ch), .int (nI n1)] (kmix (kT (kIs σ 5 0 y) f) gF) (fun r g1 => ∃ f1 y1, r = some (.int (iI (kI (kGs F (kIs σ 4 0 1) n1) 34 ch))) ∧ g1 = kmix (kT (kIs σ 5 0 y1) f1) gF) := by
  refine (m_X2_later h0 (kIs σ 5 0 y) gF f (hG.i5 y) hFo ch hc n1 hn1 hwk hL0).post ?_
  rintro r g1 ⟨f1, y1, h1, h3⟩
  refine ⟨f1, y1, ?_, by rw [h3, kIs_kIs]⟩
  rw [h1, (kGs_E (F := F) ((kEy_is σ rfl 0 y).is 4 0 1) n1).1.1 34 ch rfl]
theorem m_fuel5 {l : Launch} {s0 : State} {D : va_G} (h0 : x0 l s0 D) (σ : KS) (gF : xG) (y : Int) (f : aEnv) {F : Nat → Option (aEnv → Int64)} {d0 : Nat} (hG : KSt gF F d0 σ) (hFo : KFo s0 gF d0) (n1 : Nat) (hn1 : n1 ≤ 40) (hwk : 0 ≤ kI σ 3 0 ∧ kI σ 3 0 + n1 ≤ 999) (hL0 : gF (2000, 0) = none) : xMet l s0 D yX2_fuel cX2_fuel 2 (some .int) (xr 54 (4 + 66 * n1) (49 + 411 * n1) 3100) [.ref (kA σ 0 0), .int (nI n1)] (kmix (kT (kIs σ 5 0 y) f) gF) (fun r g1 => ∃ f1 y1, r = some (.int (iI (kI (kGs F (kIs σ 4 0 1) n1) 7 0))) ∧ g1 = kmix (kT (kIs σ 5 0 y1) f1) gF) := by
  refine (m_X2_fuel h0 (kIs σ 5 0 y) gF f (hG.i5 y) hFo n1 hn1 hwk hL0).post ?_
  rintro r g1 ⟨f1, y1, h1, h3⟩
  refine ⟨f1, y1, ?_, by rw [h3, kIs_kIs]⟩
  rw [h1, (kGs_E (F := F) ((kEy_is σ rfl 0 y).is 4 0 1) n1).1.1 7 0 rfl]
theorem raU_ne {ra : Nat → Nat} {k a j : Nat} (h : j ≠ k) : raU ra k a j = ra j := if_neg h
/-- the three tables are made -/
theorem DN.fin {σ : KS} {gF gB : xG} {ad : Nat} {ra : Nat → Nat} {fs f1 f2 f3 : List Value} (h : DN gF gB ad 16 ra fs) (m1 m2 m3 : Nat) (h3 : f3 = DFs (fun _ => 0) (raU (raU (raU ra 16 m1) 17 m2) 18 m3)) : ∃ gF2, xu (xmu (xu (xmu (xu (xmu (kmix σ gF) (132, 0) 133 6 4 .int m1) (120, 0) (some (ad, xO 16 f1))) (134, 0) 135 6 4 .int m2) (120, 0) (some (ad, xO 16 f2))) (136, 0) 137 40 4 .int m3) (120, 0) (some (ad, xO 16 f3)) = kmix σ gF2 ∧ DQ gF2 gB ad (raU (raU (raU ra 16 m1) 17 m2) 18 m3) (fun t c => if t = 16 then m1 + 1 + c else if t = 17 then m2 + 1 + c else m3 + 1 + c) (fun _ => 0) (fun _ _ => 0) (fun _ _ _ => 0) := by
  subst h3
  obtain ⟨h1, h2, h3, h4⟩ := h
  refine ⟨xu (xmu (xu (xmu (xu (xmu gF (132, 0) 133 6 4 .int m1) (120, 0) (some (ad, xO 16 f1))) (134, 0) 135 6 4 .int m2) (120, 0) (some (ad, xO 16 f2))) (136, 0) 137 40 4 .int m3) (120, 0) (some (ad, xO 16 (DFs (fun _ => 0) (raU (raU (raU ra 16 m1) 17 m2) 18 m3)))), by rw [kmix_xmu _ _ _ _ _ _ _ _ rfl rfl, kmix_xuF _ _ _ _ rfl, kmix_xmu _ _ _ _ _ _ _ _ rfl rfl, kmix_xuF _ _ _ _ rfl, kmix_xmu _ _ _ _ _ _ _ _ rfl rfl, kmix_xuF _ _ _ _ rfl], xu_eq _ _ _, fun k a b => ?_, fun k a b => ?_, ?_, ⟨?_, ?_, ?_⟩, fun c hc => ?_, fun c hc => ?_, fun c hc => ?_, fun n hn => ?_⟩
  · have w : ∀ i : Nat, 129 ≤ i ∨ i = 120 → ((116 + k, 0) : xN) ≠ (i, 0) := fun i hi e => by injection e with e1 e2; omega
    rw [xu_ne (w 120 (by decide)), xmu_ne (w 136 (by decide)) (by dsimp only; omega), xu_ne (w 120 (by decide)), xmu_ne (w 134 (by decide)) (by dsimp only; omega), xu_ne (w 120 (by decide)), xmu_ne (w 132 (by decide)) (by dsimp only; omega), h2 k a (by omega)]
    rw [raU_ne (by omega), raU_ne (by omega), raU_ne (by omega)]
    unfold DNc
    rw [if_pos b]
  · have w : ∀ i : Nat, 131 < i ∨ i = 120 → ((116 + k, 0) : xN) ≠ (i, 0) := fun i hi e => by injection e with e1 e2; omega
    rw [xu_ne (w 120 (by decide)), xmu_ne (w 136 (by decide)) (by dsimp only; omega), xu_ne (w 120 (by decide)), xmu_ne (w 134 (by decide)) (by dsimp only; omega), xu_ne (w 120 (by decide)), xmu_ne (w 132 (by decide)) (by dsimp only; omega), h2 k (by omega) (by omega)]
    rw [raU_ne (by omega), raU_ne (by omega), raU_ne (by omega)]
    unfold DNc
    rw [if_neg (by omega), if_pos b]
  · rw [xu_ne (n_fst rfl), xmu_ne (n_fst rfl) (by decide), xu_ne (n_fst rfl), xmu_ne (n_fst rfl) (by decide), xu_ne (n_fst rfl), xmu_ne (n_fst rfl) (by decide)]
    exact h2 15 (by decide) (by decide)
  · rw [xu_ne (n_fst rfl), xmu_ne (n_fst rfl) (by decide), xu_ne (n_fst rfl), xmu_ne (n_fst rfl) (by decide), xu_ne (n_fst rfl)]
    exact if_pos rfl
  · rw [xu_ne (n_fst rfl), xmu_ne (n_fst rfl) (by decide), xu_ne (n_fst rfl)]
    exact if_pos rfl
  · rw [xu_ne (n_fst rfl)]
    exact if_pos rfl
  · rw [xu_ne (n_fst rfl), xmu_ne (n_fst rfl) (by dsimp only; omega), xu_ne (n_fst rfl), xmu_ne (n_fst rfl) (by dsimp only; omega), xu_ne (n_fst rfl)]
    exact (if_neg (n_fst rfl)).trans (if_pos ⟨rfl, hc⟩)
  · rw [xu_ne (n_fst rfl), xmu_ne (n_fst rfl) (by dsimp only; omega), xu_ne (n_fst rfl)]
    exact (if_neg (n_fst rfl)).trans (if_pos ⟨rfl, hc⟩)
  · rw [xu_ne (n_fst rfl)]
    exact (if_neg (n_fst rfl)).trans (if_pos ⟨rfl, hc⟩)
  · have w : ∀ i j : Nat, 120 ≤ i ∧ i ≤ 137 → n ≠ (i, j) := fun i j hi e => by rw [e] at hn; dsimp only at hn; omega
    rw [xu_ne (w 120 0 (by decide)), xmu_ne (w 136 0 (by decide)) (by omega), xu_ne (w 120 0 (by decide)), xmu_ne (w 134 0 (by decide)) (by omega), xu_ne (w 120 0 (by decide)), xmu_ne (w 132 0 (by decide)) (by omega)]
    exact h3 n hn
