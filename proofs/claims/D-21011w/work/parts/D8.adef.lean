/-! Ahead: how it is made -/
theorem x_geqE {p : Program} {l : Launch} {e : Env} {R : Room} {s : State} {m : MethodId} {args : Array Value} {below : List Frame} {meth : Method} {c : Code} {s0 : State} {D : va_G} {Q : State → Prop} {cells slots : Nat} {g : xG} {pc : Nat} {lv : xL} {st : List Value} {σ : KS} {W : xG → Prop} (h : ∃ gF, g = kmix σ gF ∧ W gF) (k : ∀ gF, W gF → XW p l e R s m args below meth c s0 D Q cells slots (kmix σ gF) pc lv st) : XW p l e R s m args below meth c s0 D Q cells slots g pc lv st := by
  obtain ⟨gF, rfl, h2⟩ := h
  exact k gF h2
def DNc (k : Nat) : xE := if k < 10 then xAi .int 3 (fun _ => 0) else if k < 15 then xAi .int 6 (fun _ => 0) else xAi .boolean 6 (fun _ => 0)
/-- the first arrays are made -/
def DN (gF gB : xG) (ad : Nat) (k : Nat) (ra : Nat → Nat) (fs : List Value) : Prop := gF (120, 0) = some (ad, xO 16 fs) ∧ (∀ j, 5 ≤ j → j < k → gF (116 + j, 0) = some (ra j, DNc j)) ∧ (∀ n : xN, n.1 < 120 ∨ 137 < n.1 → gF n = gB n) ∧ (∀ n : xN, 116 + k ≤ n.1 → n.1 ≤ 137 → gF n = none)
def raU (ra : Nat → Nat) (k a : Nat) : Nat → Nat := fun j => if j = k then a else ra j
theorem DN.step {σ : KS} {gF gB : xG} {ad k : Nat} {ra : Nat → Nat} {fs : List Value} (h : DN gF gB ad k ra fs) (n k1 : Nat) (hn : n = 116 + k) (hk1 : k1 = k + 1) (h5 : 5 ≤ k ∧ k ≤ 15) (a : Nat) {fs2 : List Value} {x : xE} (hx : x = DNc k) : ∃ gF2, xu (xu (kmix σ gF) (n, 0) (some (a, x))) (120, 0) (some (ad, xO 16 fs2)) = kmix σ gF2 ∧ DN gF2 gB ad k1 (raU ra k a) fs2 := by
  subst hn; subst hk1; subst hx
  obtain ⟨h1, h2, h3, h4⟩ := h
  refine ⟨xu (xu gF (116 + k, 0) (some (a, DNc k))) (120, 0) (some (ad, xO 16 fs2)), ?_, xu_eq _ _ _, fun j a1 a2 => ?_, fun m hm => ?_, fun m a1 a2 => ?_⟩
  · rw [kmix_xuF _ _ _ _ (by
      cases e : Nat.blt (116 + k) 40 with
      | false => rfl
      | true => exact absurd (Nat.le_of_ble_eq_true e) (by omega)), kmix_xuF _ _ _ _ rfl]
  · rw [xu_ne (fun w => by injection w with w1 w2; omega)]
    unfold raU
    by_cases e : j = k
    · subst e; rw [xu_eq, if_pos rfl]
    · rw [xu_ne (fun w => by injection w with w1 w2; omega), if_neg e]
      exact h2 j a1 (by omega)
  · rw [xu_ne (fun w => by rw [w] at hm; dsimp only at hm; omega), xu_ne (fun w => by rw [w] at hm; dsimp only at hm; omega)]
    exact h3 m hm
  · rw [xu_ne (fun w => by rw [w] at a1; dsimp only at a1; omega), xu_ne (fun w => by rw [w] at a1; dsimp only at a1; omega)]
    exact h4 m (by omega) a2
theorem DN.o {σ : KS} {gF gB : xG} {ad k : Nat} {ra : Nat → Nat} {fs : List Value} (h : DN gF gB ad k ra fs) : kmix σ gF (120, 0) = some (ad, xO 16 fs) := (kmix_F _ _ _ rfl).trans h.1
theorem DN.no {σ : KS} {gF gB : xG} {ad k : Nat} {ra : Nat → Nat} {fs : List Value} (h : DN gF gB ad k ra fs) (n : xN) (h0 : Nat.blt n.1 40 = false) (h1 : 116 + k ≤ n.1) (h2 : n.1 ≤ 137) : kmix σ gF n = none := (kmix_F _ _ _ h0).trans (h.2.2.2 n h1 h2)
def DFs (I : Nat → Int32) (ra : Nat → Nat) : List Value := [.int (I 0), .int (I 1), .int (I 2), .int (I 3), .int (I 4), .ref (ra 5), .ref (ra 6), .ref (ra 7), .ref (ra 8), .ref (ra 9), .ref (ra 10), .ref (ra 11), .ref (ra 12), .ref (ra 13), .ref (ra 14), .ref (ra 15), .ref (ra 16), .ref (ra 17), .ref (ra 18)]
/-- all that Ahead has, over a frame that has nothing of it -/
def DQ (gF gB : xG) (ad : Nat) (ra : Nat → Nat) (rr : Nat → Nat → Nat) (I : Nat → Int32) (V : Nat → Nat → Int32) (M : Nat → Nat → Nat → Int32) : Prop := gF (120, 0) = some (ad, xO 16 (DFs I ra)) ∧ (∀ k, 5 ≤ k → k < 10 → gF (116 + k, 0) = some (ra k, xAi .int 3 (V k))) ∧ (∀ k, 10 ≤ k → k < 15 → gF (116 + k, 0) = some (ra k, xAi .int 6 (V k))) ∧ gF (131, 0) = some (ra 15, xAi .boolean 6 (V 15)) ∧ (gF (132, 0) = some (ra 16, xAr (.array .int) 6 (fun c => some (rr 16 c))) ∧ gF (134, 0) = some (ra 17, xAr (.array .int) 6 (fun c => some (rr 17 c))) ∧ gF (136, 0) = some (ra 18, xAr (.array .int) 40 (fun c => some (rr 18 c)))) ∧ (∀ c, c < 6 → gF (133, c) = some (rr 16 c, xAi .int 4 (M 16 c))) ∧ (∀ c, c < 6 → gF (135, c) = some (rr 17 c, xAi .int 4 (M 17 c))) ∧ (∀ c, c < 40 → gF (137, c) = some (rr 18 c, xAi .int 4 (M 18 c))) ∧ ∀ n : xN, n.1 < 120 ∨ 137 < n.1 → gF n = gB n
section DQS
variable {gF gB : xG} {ad : Nat} {ra : Nat → Nat} {rr : Nat → Nat → Nat} {I : Nat → Int32} {V : Nat → Nat → Int32} {M : Nat → Nat → Nat → Int32} {σ : KS}
theorem DQ.dw (h : DQ gF gB ad ra rr I V M) : DW gF ad I V M := by
  obtain ⟨h1, h2, h3, h4, ⟨h5, h6, h7⟩, h8, h9, h10, -⟩ := h
  exact ⟨ra, rr, h1, h2, h3, h4, h5, h6, h7, fun c hc => ⟨h8 c hc, h9 c hc⟩, h10⟩
theorem DQ.out (h : DQ gF gB ad ra rr I V M) (n : xN) (hn : n.1 < 120 ∨ 137 < n.1) : gF n = gB n := h.2.2.2.2.2.2.2.2 n hn
theorem bf40 {n : Nat} (h : 40 ≤ n) : Nat.blt n 40 = false := by
  cases e : Nat.blt n 40 with
  | false => rfl
  | true => exact absurd (Nat.le_of_ble_eq_true e) (by omega)
theorem DQ.o (h : DQ gF gB ad ra rr I V M) : kmix σ gF (120, 0) = some (ad, xO 16 (DFs I ra)) := (kmix_F _ _ _ rfl).trans h.1
theorem DQ.v3 (h : DQ gF gB ad ra rr I V M) (k n : Nat) (hn : n = 116 + k) (h1 : 5 ≤ k) (h2 : k < 10) : kmix σ gF (n, 0) = some (ra k, xAi .int 3 (V k)) := by
  subst hn
  exact (kmix_F _ _ _ (bf40 (by dsimp only; omega))).trans (h.2.1 k h1 h2)
theorem DQ.v6 (h : DQ gF gB ad ra rr I V M) (k n : Nat) (hn : n = 116 + k) (h1 : 10 ≤ k) (h2 : k < 15) : kmix σ gF (n, 0) = some (ra k, xAi .int 6 (V k)) := by
  subst hn
  exact (kmix_F _ _ _ (bf40 (by dsimp only; omega))).trans (h.2.2.1 k h1 h2)
theorem DQ.z (h : DQ gF gB ad ra rr I V M) : kmix σ gF (131, 0) = some (ra 15, xAi .boolean 6 (V 15)) := (kmix_F _ _ _ rfl).trans h.2.2.2.1
theorem DQ.r6 (h : DQ gF gB ad ra rr I V M) : kmix σ gF (132, 0) = some (ra 16, xAr (.array .int) 6 (fun c => some (rr 16 c))) := (kmix_F _ _ _ rfl).trans h.2.2.2.2.1.1
theorem DQ.r7 (h : DQ gF gB ad ra rr I V M) : kmix σ gF (134, 0) = some (ra 17, xAr (.array .int) 6 (fun c => some (rr 17 c))) := (kmix_F _ _ _ rfl).trans h.2.2.2.2.1.2.1
theorem DQ.r8 (h : DQ gF gB ad ra rr I V M) : kmix σ gF (136, 0) = some (ra 18, xAr (.array .int) 40 (fun c => some (rr 18 c))) := (kmix_F _ _ _ rfl).trans h.2.2.2.2.1.2.2
theorem DQ.m6 (h : DQ gF gB ad ra rr I V M) {c : Nat} (hc : c < 6) : kmix σ gF (133, c) = some (rr 16 c, xAi .int 4 (M 16 c)) := (kmix_F _ _ _ rfl).trans (h.2.2.2.2.2.1 c hc)
theorem DQ.m7 (h : DQ gF gB ad ra rr I V M) {c : Nat} (hc : c < 6) : kmix σ gF (135, c) = some (rr 17 c, xAi .int 4 (M 17 c)) := (kmix_F _ _ _ rfl).trans (h.2.2.2.2.2.2.1 c hc)
theorem DQ.m8 (h : DQ gF gB ad ra rr I V M) {c : Nat} (hc : c < 40) : kmix σ gF (137, c) = some (rr 18 c, xAi .int 4 (M 18 c)) := (kmix_F _ _ _ rfl).trans (h.2.2.2.2.2.2.2.1 c hc)
theorem DQ.pI (h : DQ gF gB ad ra rr I V M) (I2 : Nat → Int32) {fs : List Value} (hf : fs = DFs I2 ra) : ∃ gF2, xu (kmix σ gF) (120, 0) (some (ad, xO 16 fs)) = kmix σ gF2 ∧ DQ gF2 gB ad ra rr I2 V M := by
  subst hf
  obtain ⟨h1, h2, h3, h4, ⟨h5, h6, h7⟩, h8, h9, h10, h11⟩ := h
  refine ⟨xu gF (120, 0) (some (ad, xO 16 (DFs I2 ra))), kmix_xuF _ _ _ _ rfl, xu_eq _ _ _, fun k a b => ?_, fun k a b => ?_, ?_, ⟨?_, ?_, ?_⟩, fun c hc => ?_, fun c hc => ?_, fun c hc => ?_, fun n hn => ?_⟩
  · rw [xu_ne (fun w => by injection w with w1 w2; omega)]; exact h2 k a b
  · rw [xu_ne (fun w => by injection w with w1 w2; omega)]; exact h3 k a b
  · rw [xu_ne (n_fst rfl)]; exact h4
  · rw [xu_ne (n_fst rfl)]; exact h5
  · rw [xu_ne (n_fst rfl)]; exact h6
  · rw [xu_ne (n_fst rfl)]; exact h7
  · rw [xu_ne (n_fst rfl)]; exact h8 c hc
  · rw [xu_ne (n_fst rfl)]; exact h9 c hc
  · rw [xu_ne (n_fst rfl)]; exact h10 c hc
  · rw [xu_ne (fun w => by rw [w] at hn; dsimp only at hn; omega)]; exact h11 n hn
theorem DQ.pV (h : DQ gF gB ad ra rr I V M) (k n N : Nat) (hn : n = 116 + k) (hN : 5 ≤ k ∧ k < 10 ∧ N = 3 ∨ 10 ≤ k ∧ k < 15 ∧ N = 6) {j : Nat} {v : Int32} : ∃ gF2, xu (kmix σ gF) (n, 0) (some (ra k, xAi .int N (upd (V k) j v))) = kmix σ gF2 ∧ DQ gF2 gB ad ra rr I (k2s V k j v) M := by
  subst hn
  obtain ⟨h1, h2, h3, h4, ⟨h5, h6, h7⟩, h8, h9, h10, h11⟩ := h
  have hk : 5 ≤ k ∧ k < 15 := by omega
  refine ⟨xu gF (116 + k, 0) (some (ra k, xAi .int N (upd (V k) j v))), kmix_xuF _ _ _ _ (bf40 (by dsimp only; omega)), ?_, fun i a b => ?_, fun i a b => ?_, ?_, ⟨?_, ?_, ?_⟩, fun c hc => ?_, fun c hc => ?_, fun c hc => ?_, fun m hm => ?_⟩
  · rw [xu_ne (fun w => by injection w with w1 w2; omega)]; exact h1
  · by_cases e : i = k
    · subst e
      rw [xu_eq, k2s_row, show N = 3 by omega]
    · rw [xu_ne (fun w => by injection w with w1 w2; omega), k2s_ne _ _ _ _ e]; exact h2 i a b
  · by_cases e : i = k
    · subst e
      rw [xu_eq, k2s_row, show N = 6 by omega]
    · rw [xu_ne (fun w => by injection w with w1 w2; omega), k2s_ne _ _ _ _ e]; exact h3 i a b
  · rw [xu_ne (fun w => by injection w with w1 w2; omega), k2s_ne _ _ _ _ (by omega)]; exact h4
  · rw [xu_ne (fun w => by injection w with w1 w2; omega)]; exact h5
  · rw [xu_ne (fun w => by injection w with w1 w2; omega)]; exact h6
  · rw [xu_ne (fun w => by injection w with w1 w2; omega)]; exact h7
  · rw [xu_ne (fun w => by injection w with w1 w2; omega)]; exact h8 c hc
  · rw [xu_ne (fun w => by injection w with w1 w2; omega)]; exact h9 c hc
  · rw [xu_ne (fun w => by injection w with w1 w2; omega)]; exact h10 c hc
  · rw [xu_ne (fun w => by rw [w] at hm; dsimp only at hm; omega)]; exact h11 m hm
theorem DQ.pZ (h : DQ gF gB ad ra rr I V M) {j : Nat} {v : Int32} : ∃ gF2, xu (kmix σ gF) (131, 0) (some (ra 15, xAi .boolean 6 (upd (V 15) j v))) = kmix σ gF2 ∧ DQ gF2 gB ad ra rr I (k2s V 15 j v) M := by
  obtain ⟨h1, h2, h3, h4, ⟨h5, h6, h7⟩, h8, h9, h10, h11⟩ := h
  refine ⟨xu gF (131, 0) (some (ra 15, xAi .boolean 6 (upd (V 15) j v))), kmix_xuF _ _ _ _ rfl, ?_, fun i a b => ?_, fun i a b => ?_, ?_, ⟨?_, ?_, ?_⟩, fun c hc => ?_, fun c hc => ?_, fun c hc => ?_, fun m hm => ?_⟩
  · rw [xu_ne (n_fst rfl)]; exact h1
  · rw [xu_ne (fun w => by injection w with w1 w2; omega), k2s_ne _ _ _ _ (by omega)]; exact h2 i a b
  · rw [xu_ne (fun w => by injection w with w1 w2; omega), k2s_ne _ _ _ _ (by omega)]; exact h3 i a b
  · rw [xu_eq, k2s_row]
  · rw [xu_ne (n_fst rfl)]; exact h5
  · rw [xu_ne (n_fst rfl)]; exact h6
  · rw [xu_ne (n_fst rfl)]; exact h7
  · rw [xu_ne (n_fst rfl)]; exact h8 c hc
  · rw [xu_ne (n_fst rfl)]; exact h9 c hc
  · rw [xu_ne (n_fst rfl)]; exact h10 c hc
  · rw [xu_ne (fun w => by rw [w] at hm; dsimp only at hm; omega)]; exact h11 m hm
/-- a table with one cell changed -/
def k3s (M : Nat → Nat → Nat → Int32) (t c j : Nat) (v : Int32) : Nat → Nat → Nat → Int32 := fun t1 => if t1 = t then k2s (M t) c j v else M t1
theorem DQ.pM (h : DQ gF gB ad ra rr I V M) (t n c N : Nat) (hn : t = 16 ∧ n = 133 ∧ N = 6 ∨ t = 17 ∧ n = 135 ∧ N = 6 ∨ t = 18 ∧ n = 137 ∧ N = 40) (hc : c < N) {j : Nat} {v : Int32} : ∃ gF2, xu (kmix σ gF) (n, c) (some (rr t c, xAi .int 4 (upd (M t c) j v))) = kmix σ gF2 ∧ DQ gF2 gB ad ra rr I V (k3s M t c j v) := by
  obtain ⟨h1, h2, h3, h4, ⟨h5, h6, h7⟩, h8, h9, h10, h11⟩ := h
  have hk : n = 133 ∨ n = 135 ∨ n = 137 := by omega
  have hrow : ∀ t1 c1 : Nat, ¬ (t1 = t ∧ c1 = c) → k3s M t c j v t1 c1 = M t1 c1 := fun t1 c1 q => by
    unfold k3s
    by_cases e : t1 = t
    · subst e
      rw [if_pos rfl, k2s_ne _ _ _ _ (fun w => q ⟨rfl, w⟩)]
    · rw [if_neg e]
  have hrow2 : k3s M t c j v t c = upd (M t c) j v := by unfold k3s; rw [if_pos rfl, k2s_row]
  refine ⟨xu gF (n, c) (some (rr t c, xAi .int 4 (upd (M t c) j v))), kmix_xuF _ _ _ _ (bf40 (by dsimp only; omega)), ?_, fun i a b => ?_, fun i a b => ?_, ?_, ⟨?_, ?_, ?_⟩, fun c1 hc1 => ?_, fun c1 hc1 => ?_, fun c1 hc1 => ?_, fun m hm => ?_⟩
  · rw [xu_ne (fun w => by injection w with w1 w2; omega)]; exact h1
  · rw [xu_ne (fun w => by injection w with w1 w2; omega)]; exact h2 i a b
  · rw [xu_ne (fun w => by injection w with w1 w2; omega)]; exact h3 i a b
  · rw [xu_ne (fun w => by injection w with w1 w2; omega)]; exact h4
  · rw [xu_ne (fun w => by injection w with w1 w2; omega)]; exact h5
  · rw [xu_ne (fun w => by injection w with w1 w2; omega)]; exact h6
  · rw [xu_ne (fun w => by injection w with w1 w2; omega)]; exact h7
  · by_cases e : t = 16 ∧ c1 = c
    · obtain ⟨rfl, rfl⟩ := e
      rw [show n = 133 by omega, xu_eq, hrow2]
    · rw [xu_ne (fun w => by injection w with w1 w2; exact e ⟨by omega, w2⟩), hrow _ _ (fun w => e ⟨w.1.symm, w.2⟩)]
      exact h8 c1 hc1
  · by_cases e : t = 17 ∧ c1 = c
    · obtain ⟨rfl, rfl⟩ := e
      rw [show n = 135 by omega, xu_eq, hrow2]
    · rw [xu_ne (fun w => by injection w with w1 w2; exact e ⟨by omega, w2⟩), hrow _ _ (fun w => e ⟨w.1.symm, w.2⟩)]
      exact h9 c1 hc1
  · by_cases e : t = 18 ∧ c1 = c
    · obtain ⟨rfl, rfl⟩ := e
      rw [show n = 137 by omega, xu_eq, hrow2]
    · rw [xu_ne (fun w => by injection w with w1 w2; exact e ⟨by omega, w2⟩), hrow _ _ (fun w => e ⟨w.1.symm, w.2⟩)]
      exact h10 c1 hc1
  · rw [xu_ne (fun w => by rw [w] at hm; dsimp only at hm; omega)]; exact h11 m hm
theorem DQ.sub (h : DQ gF gB ad ra rr I V M) (hB : ∀ n : xN, 120 ≤ n.1 → n.1 ≤ 137 → gB n = none) : ∀ n x, gB n = some x → gF n = some x := fun n x e => by
  rw [h.out n (by
    by_cases q : n.1 < 120
    · exact Or.inl q
    · refine Or.inr (Nat.lt_of_not_le (fun q2 => ?_))
      rw [hB n (by omega) q2] at e
      cases e)]
  exact e
theorem DQ.fo {s0 : State} {d0 : Nat} (h : DQ gF gB ad ra rr I V M) (hf : KFo s0 gB d0) : KFo s0 gF d0 := by
  refine ⟨⟨hf.1.1, ?_⟩, fun n h1 h2 => ?_⟩
  · rw [h.out (1000, 0) (Or.inr (by decide))]; exact hf.1.2
  · rw [h.out n (Or.inl (by omega))]; exact hf.2 n h1 h2
theorem DQ.st {F : Nat → Option (aEnv → Int64)} {d0 : Nat} (h : DQ gF gB ad ra rr I V M) (hB : ∀ n : xN, 120 ≤ n.1 → n.1 ≤ 137 → gB n = none) (hG : KSt gB F d0 σ) : KSt gF F d0 σ := ⟨kF_mono hG.1 (h.sub hB), hG.2⟩
theorem DQ.ah {aa : Nat} {α : aA} (h : DQ gF gB ad ra rr I V M) (hA : AH gB aa α) : AH gF aa α := hA.ext (fun n _ h2 => h.out n (Or.inl (by omega)))
end DQS
theorem KSt.i5 {gF : xG} {F : Nat → Option (aEnv → Int64)} {d0 : Nat} {σ : KS} (h : KSt gF F d0 σ) (y : Int) : KSt gF F d0 (kIs σ 5 0 y) := h
theorem xmu_ne {g : xG} {no : xN} {ki N M a : Nat} {ty : FieldType} {n : xN} (h1 : n ≠ no) (h2 : n.1 ≠ ki) : xmu g no ki N M ty a n = g n := by
  unfold xmu
  rw [if_neg h1, if_neg (fun w => h2 w.1)]
theorem kFnd_E {F : Nat → Option (aEnv → Int64)} {σ τ : KS} (h : kEy σ τ) {q k : Nat} {x : Int32} (hx : kFnd F σ q k x) : kFnd F τ q k x := by
  have e : ∀ j, kFb F σ q j ↔ kFb F τ q j := fun j => by
    unfold kFb
    rw [(kGs_E (F := F) h (j + 1)).2 (by omega)]
  rcases hx with ⟨a, b⟩ | ⟨j, a, b, c, d⟩
  · exact Or.inl ⟨a, fun j hj w => b j hj ((e j).mpr w)⟩
  · exact Or.inr ⟨j, a, b, (e j).mp c, fun i hi w => d i hi ((e i).mpr w)⟩
