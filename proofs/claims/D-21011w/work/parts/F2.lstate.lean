/-! THE STATE BETWEEN THE LAW'S ACTS -/
def frd (σ : KS) (n : Nat) : Nat := sm (fun c => if kI σ 34 c = -1 then 0 else 1) n
/-- the seed is a number below 2^31 -/
def Sd (σ : KS) : Prop := ∃ s : Nat, s < 2147483648 ∧ kL σ 1 0 = lI (s : Int)
def LSt (gF : xG) (α : aA) (d0 : Nat) (σ : KS) : Prop := KSt gF (aFo α) d0 σ ∧ LT σ α ∧ LW σ α ∧ KMk σ ∧ KRw σ ∧ kA σ 63 0 ≤ frd σ (aI α 0) ∧ (0 ≤ kI σ 7 0 ∧ kI σ 7 0 ≤ 9999) ∧ (∀ c, c < kA σ 61 0 → kI σ 34 c = -1 → kI σ 36 c = 0) ∧ kI σ 0 0 = 0 ∧ kA σ 64 0 = 0 ∧ kA σ 74 0 = 0 ∧ kA σ 14 0 = d0 ∧ Sd σ
/-- what Ahead has seen of it -/
def AF (α : aA) (σ : KS) (I : Nat → Int32) (V : Nat → Nat → Int32) (M : Nat → Nat → Nat → Int32) : Prop := (I 0 = iI (kI σ 7 0) ∧ I 1 = nI (kA σ 63 0) ∧ I 2 = iI (kI σ 3 0) ∧ I 3 = iI (kV σ 1 0 3) ∧ I 4 = iI (kI (kGs (aFo α) (kIs σ 4 0 1) 1) 7 0)) ∧ AI (aFo α) σ V M (kA σ 63 0) (aI α 1) (aI α 0)
theorem frd_6 {σ : KS} {n : Nat} : frd σ n ≤ n := by
  have := sm_le (n := n) (f := fun c => if kI σ 34 c = -1 then 0 else 1) (g := fun _ => 1) (fun j _ => by split <;> omega)
  have e : ∀ n, sm (fun _ => 1) n = n := fun n => by
    induction n with
    | zero => rfl
    | succ n ih => show sm (fun _ => 1) n + 1 = n + 1; rw [ih]
  rw [e] at this
  exact this
theorem kEy.full2 {σ τ : KS} (h : kEy σ τ) (q : Nat) : kFull σ q = kFull τ q := h.full q
theorem DC.ey {σ τ : KS} {V : Nat → Nat → Int32} {c : Nat} (h : kEy τ σ) (hd : DC σ V c) : DC τ V c := hd.eq (by rw [h.2.1]) (h.1 33 c rfl) (h.1 34 c rfl) (fun k => h.1 35 k rfl) h.2.2.2.1
theorem AI.bk {F : Nat → Option (aEnv → Int64)} {σ τ : KS} {V : Nat → Nat → Int32} {M : Nat → Nat → Nat → Int32} {R Q C : Nat} (h : AI F σ V M R Q C) (hE : kEy τ σ) (hV : ∀ k, k < R → kV τ 2 k = kV σ 2 k) : AI F τ V M R Q C := by
  refine ⟨fun k hk j hj => by rw [hV k hk]; exact h.1 k hk j hj, fun q hq => ?_, fun c hc => ⟨⟨(h.2.2 c hc).1.1.ey hE, ?_⟩, fun q e1 e2 i hi => ?_⟩⟩
  · obtain ⟨a, b, c, d, e⟩ := h.2.1 q hq
    refine ⟨by rw [hE.2.2.1]; exact a, by rw [hE.full]; exact b, by rw [hE.1 41 q rfl]; exact c, by rw [hE.1 41 q rfl, hE.burn]; exact d, kFnd_E hE.symm e⟩
  · rw [(h.2.2 c hc).1.2, (kGs_E (F := F) (hE.is 4 0 1) 1).1.1 34 c rfl]
  · rw [hE.2.1] at e1
    rw [hE.1 41 q rfl] at e2 ⊢
    rw [hE.1 33 c rfl, hE.temp, hE.crack]
    exact (h.2.2 c hc).2 q e1 e2 i hi
theorem AF.bk {α : aA} {σ τ : KS} {I : Nat → Int32} {V : Nat → Nat → Int32} {M : Nat → Nat → Nat → Int32} (h : AF α σ I V M) (hB : Bk σ τ) : AF α τ I V M := by
  obtain ⟨⟨a0, a1, a2, a3, a4⟩, b⟩ := h
  obtain ⟨hE, h63, hV, hV1, -, -, -, -, -⟩ := hB
  refine ⟨⟨by rw [hE.1 7 0 rfl]; exact a0, by rw [h63]; exact a1, by rw [hE.1 3 0 rfl]; exact a2, by rw [hV1]; exact a3, ?_⟩, by rw [h63]; exact b.bk hE hV⟩
  rw [a4, (kGs_E (F := aFo α) (hE.is 4 0 1) 1).1.1 7 0 rfl]
theorem AF.ds {α : aA} {σ : KS} {I : Nat → Int32} {V : Nat → Nat → Int32} {M : Nat → Nat → Nat → Int32} (h : AF α σ I V M) (h7 : kA σ 63 0 ≤ 7) : DS σ α I V M (-1) (-1) := by
  obtain ⟨⟨a0, a1, a2, a3, a4⟩, b⟩ := h
  exact ⟨a0, a1, a2, by omega, b.1, fun c hc _ => (b.2.2 c hc).1.1, fun q hq => ⟨(b.2.1 q hq).1, fun _ => (b.2.1 q hq).2.2.1⟩⟩
theorem kKp.Bk {σ σ1 : KS} {d0 : Nat} (h : kKp σ σ1 d0) : Bk σ σ1 := ⟨h.E, h.A rfl 0, fun k _ => funext fun j => h.V rfl k j, fun k j => h.V rfl k j, h.A rfl 0, h.I rfl 0, h.A rfl 0, h.A rfl 0, h.A rfl 0⟩
theorem LSt.bk {gF : xG} {α : aA} {d0 : Nat} {σ τ : KS} (h : LSt gF α d0 σ) (hB : Bk σ τ) (hG : KSt gF (aFo α) d0 τ) (hS : Sd τ) : LSt gF α d0 τ := by
  obtain ⟨-, a2, a3, a4, a5, a6, a7, a8, a9, a10, a11, a12, -⟩ := h
  obtain ⟨hE, h63, -, -, -, b6, b7, b8, b9⟩ := hB
  refine ⟨hG, a2.eq hE.2.2.2.1 hE.2.2.2.2 (fun c => hE.1 31 c rfl) (fun c => hE.1 32 c rfl) (fun q => by rw [hE.2.2.1]), ⟨(hE.1 8 0 rfl).trans a3.1, (hE.1 9 0 rfl).trans a3.2⟩, fun c hc => ?_, fun c q hc e => ?_, ?_, by rw [hE.1 7 0 rfl]; exact a7, fun c hc e => ?_, b6.trans a9, b7.trans a10, b8.trans a11, b9.trans a12, hS⟩
  · rw [hE.2.2.2.1] at hc ⊢
    rw [hE.1 35 c rfl, hE.1 34 c rfl]
    refine ⟨fun i hi hb => ?_, (a4 c hc).2⟩
    rw [hE.1 35 i rfl]
    exact (a4 c hc).1 i hi hb
  · rw [hE.2.1] at e
    rw [hE.1 34 c rfl]
    exact a5 c q (by rw [← hE.2.2.2.1]; exact hc) e
  · rw [h63]
    refine Nat.le_trans a6 ?_
    exact Nat.le_of_eq (sm_ext (fun c _ => by rw [hE.1 34 c rfl]))
  · rw [hE.1 34 c rfl] at e
    rw [hE.1 36 c rfl]
    exact a8 c (by rw [← hE.2.2.2.1]; exact hc) e
theorem kKp.LSt {gF : xG} {α : aA} {d0 : Nat} {σ σ1 : KS} (hk : kKp σ σ1 d0) (h : LSt gF α d0 σ) : LSt gF α d0 σ1 := h.bk hk.Bk (hk.St h.1) (by
  obtain ⟨-, -, -, -, -, -, -, -, -, -, -, -, s, h1, h2⟩ := h
  exact ⟨s, h1, by rw [hk.L]; exact h2⟩)
section WLS
variable {F : Nat → Option (aEnv → Int64)} {σ : KS} {gu : Int32}
theorem kFd7 {q : Nat} (hp : KPl (kPaid F σ q)) (h8 : kA σ 61 0 ≤ 8) : kI (kFdS F σ q gu) 7 0 = (iI (kI σ 7 0) - kBurn F σ q).toInt := by
  have h := (frN (F := F) (σ := kPaid F σ q) (q := q) (hh := kHt σ q gu) (t := kBT F (kPaid F σ q) q (kHt σ q gu)) (k := kBK F (kPaid F σ q) q (kHt σ q gu)) hp h8 (kA (kPaid F σ q) 25 q) (Nat.le_refl _)).2.2.2.2.1 7 0 (by decide)
  show kI (kIs (kIs (kFrN F (kPaid F σ q) q (kHt σ q gu) (kBT F (kPaid F σ q) q (kHt σ q gu)) (kBK F (kPaid F σ q) q (kHt σ q gu)) (kA (kPaid F σ q) 25 q)) 41 q (-1)) 5 0 _) 7 0 = _
  rw [kI_kIs, if_neg (fun w => absurd w.1 (by decide)), kI_kIs, if_neg (fun w => absurd w.1 (by decide)), h]
  show kI (kIs σ 7 0 _) 7 0 = _
  rw [kI_kIs, if_pos ⟨rfl, rfl⟩]
theorem kWkN7 (hp : KPl σ) (h8 : kA σ 61 0 ≤ 8) (h3 : kA σ 62 0 ≤ 3) : ∀ n, n ≤ kA σ 62 0 → kI (kWkN F gu σ n) 7 0 = (wL F σ n).toInt := by
  intro n
  induction n with
  | zero =>
    intro _
    show kI (kIs (kIs σ 5 0 0) 7 0 (kFl σ).toInt) 7 0 = _
    rw [kI_kIs, if_pos ⟨rfl, rfl⟩]
    rfl
  | succ n ih =>
    intro hn
    have hR := wkN (F := F) (gu := gu) hp h8 h3 n (by omega)
    have hA : kA (kWkN F gu σ n) = kA σ := kA_kWkN σ n
    obtain ⟨a1, a2, a3, a4⟩ := hR.at hA (kWkN_b σ n)
    have hP := (kWkN_P (F := F) (gu := gu) hp n (by omega)).1
    show kI (kW1 F gu (kWkN F gu σ n) n) 7 0 = _
    unfold kW1
    rw [a1, a2, a3, hR.1]
    by_cases hw : wF F σ n
    · rw [if_neg hw, kFd7 (KPl_is hP (by decide) _ _) (by rw [hA]; exact h8), hR.1, a3, wL_y hw]
    · rw [if_pos (Classical.not_not.mp hw), wL_n hw]
      exact ih (by omega)
/-- the masks are numbers of the machine -/
def P35 (m : Nat) (τ : KS) : Prop := ∀ c, c < m → ∃ x : Int32, kI τ 35 c = x.toInt
theorem P35.is {m : Nat} {τ : KS} (h : P35 m τ) (f k : Nat) (z : Int32) : P35 m (kIs τ f k z.toInt) := fun c hc => by
  rw [kI_kIs]
  split
  · exact ⟨z, rfl⟩
  · exact h c hc
theorem P35.is2 {m : Nat} {τ : KS} (h : P35 m τ) {f : Nat} (hf : f ≠ 35) (k : Nat) (z : Int) : P35 m (kIs τ f k z) := fun c hc => by
  rw [kI_kIs, if_neg (fun w => hf w.1.symm)]
  exact h c hc
theorem P35.go {m : Nat} {τ : KS} (h : P35 m τ) (c : Nat) : P35 m (kGo τ c) := fun d hd => by
  rw [kGo_Ix τ c (by decide)]
  exact h d hd
theorem P35.frN {m : Nat} {q : Nat} {hh : Int32} {t k : Nat → Nat → Int32} (h : P35 m σ) : ∀ n, P35 m (kFrN F σ q hh t k n) := by
  intro n
  induction n with
  | zero => exact h
  | succ n ih =>
    cases hc : kO σ 1 q n with
    | none => rw [kFrN_n hc]; exact ih
    | some c =>
      rw [kFrN_s hc]
      refine P35.go (P35.is (P35.is ?_ 34 c _) 36 c _) c
      unfold kFs
      split
      · exact ih
      · split
        · exact ih
        · exact (ih.is 35 c _).is 35 _ _
theorem P35.wk {m : Nat} (h : P35 m σ) : ∀ n, P35 m (kWkN F gu σ n) := by
  intro n
  induction n with
  | zero => exact (h.is2 (f := 5) (by decide) 0 0).is 7 0 _
  | succ n ih =>
    show P35 m (kW1 F gu (kWkN F gu σ n) n)
    unfold kW1
    split
    · exact ih
    · exact (((ih.is 7 0 _).frN (kA (kPaid F (kWkN F gu σ n) n) 25 n)).is2 (f := 41) (by decide) n (-1)).is 5 0 _
theorem bt_lt {x : Int32} {n : Nat} (hn : n ≤ 8) (h : ∀ i, i < 32 → bt x i = true → i < n) : 0 ≤ x.toInt ∧ x.toInt < 256 := by
  have e : x = x &&& 255 := b_ext (fun i hi => by
    rw [b_and, b_255]
    cases hb : bt x i with
    | false => rfl
    | true => rw [show decide (i < 8) = true from decide_eq_true (by have := h i hi hb; omega)]; rfl)
  obtain ⟨j, hj, e2⟩ := pk_andE x (m := 255) 8 rfl
  rw [e, e2, nI_toInt (by omega)]
  omega
end WLS
