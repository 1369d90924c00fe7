/-! Bench -/
theorem kmix_xmu (σ : KS) (gF : xG) (no : xN) (ki N M : Nat) (ty : FieldType) (a : Nat) (h1 : Nat.blt no.1 40 = false) (h2 : Nat.blt ki 40 = false) : xmu (kmix σ gF) no ki N M ty a = kmix σ (xmu gF no ki N M ty a) := by
  funext n
  obtain ⟨k, i⟩ := n
  cases hb : Nat.blt k 40 with
  | true =>
    rw [kmix_eq _ _ _ _ hb]
    unfold xmu
    rw [if_neg (fun q => by rw [← q] at h1; rw [hb] at h1; cases h1), if_neg (fun q => by have := q.1; dsimp only at this; rw [← this, hb] at h2; cases h2), kmix_eq _ _ _ _ hb]
  | false =>
    rw [kmix_F _ _ _ hb]
    unfold xmu
    rw [kmix_F _ _ _ hb]
/-- a bench in the frame: its object at (55, 0), tempers at (56, 0) with rows (57, c), cracks at (58, 0) with rows (59, c) -/
def kBF (gF : xG) (a aT aC : Nat) (kl : Nat) (h : Int32) (o : Nat) (t k : Nat → Nat → Int32) : xG := fun n => if n = (55, 0) then some (a, xO 18 [.ref kl, .int h, .ref aT, .ref aC, .ref o]) else if n = (56, 0) then some (aT, xAr (.array .int) 8 (fun j => some (aT + 1 + j))) else if n.1 = 57 ∧ n.2 < 8 then some (aT + 1 + n.2, xAi .int 6 (t n.2)) else if n = (58, 0) then some (aC, xAr (.array .boolean) 8 (fun j => some (aC + 1 + j))) else if n.1 = 59 ∧ n.2 < 8 then some (aC + 1 + n.2, xAi .boolean 6 (k n.2)) else gF n
def k2s (t : Nat → Nat → Int32) (c p : Nat) (v : Int32) : Nat → Nat → Int32 := fun j q => if j = c ∧ q = p then v else t j q
theorem k2s_row (t : Nat → Nat → Int32) (c p : Nat) (v : Int32) : k2s t c p v c = upd (t c) p v := by
  funext q
  unfold k2s upd
  by_cases e : q = p <;> simp [e]
theorem k2s_ne (t : Nat → Nat → Int32) (c p : Nat) (v : Int32) {j : Nat} (h : j ≠ c) : k2s t c p v j = t j := by
  funext q
  unfold k2s
  simp [h]
theorem kBF_t {gF : xG} {a aT aC kl : Nat} {h : Int32} {o : Nat} {t k : Nat → Nat → Int32} {c p : Nat} {v : Int32} (hc : c < 8) : xu (kBF gF a aT aC kl h o t k) (57, c) (some (aT + 1 + c, xAi .int 6 (upd (t c) p v))) = kBF gF a aT aC kl h o (k2s t c p v) k := by
  funext n
  obtain ⟨n1, n2⟩ := n
  by_cases e : (n1, n2) = (57, c)
  · cases e
    rw [xu_eq]
    simp [kBF, hc, k2s_row]
  · rw [xu_ne e]
    unfold kBF
    by_cases e1 : n1 = 57
    · subst e1
      have : n2 ≠ c := fun q => e (by rw [q])
      simp [k2s_ne t c p v this]
    · simp [e1]
theorem kBF_k {gF : xG} {a aT aC kl : Nat} {h : Int32} {o : Nat} {t k : Nat → Nat → Int32} {c p : Nat} {v : Int32} (hc : c < 8) : xu (kBF gF a aT aC kl h o t k) (59, c) (some (aC + 1 + c, xAi .boolean 6 (upd (k c) p v))) = kBF gF a aT aC kl h o t (k2s k c p v) := by
  funext n
  obtain ⟨n1, n2⟩ := n
  by_cases e : (n1, n2) = (59, c)
  · cases e
    rw [xu_eq]
    simp [kBF, hc, k2s_row]
  · rw [xu_ne e]
    unfold kBF
    by_cases e1 : n1 = 59
    · subst e1
      have : n2 ≠ c := fun q => e (by rw [q])
      simp [k2s_ne k c p v this]
    · simp [e1]

theorem aR_sub {g g' : xG} (h : ∀ (n : xN) (x : Nat × xE), g n = some x → g' n = some x) : ∀ (d : Nat) (b : Bool) (a : Nat) (f : aEnv → Int64), aR g d b a f → aR g' d b a f := by
  intro d
  induction d with
  | zero => intro b a f q; cases b <;> exact absurd q id
  | succ d ih =>
    intro b a f q
    cases b with
    | false =>
      rcases q with ⟨n, v, hn, hg, e⟩ | ⟨n, k, hn, hg, hk, e⟩ | ⟨n, nl, nd, ns, nv, pl, sb, dl, sv, N, cap, cnt, mc, ml, fa, sg, ad, fs, hn, h1, h2, h3, h4, h5, h6, h7, e⟩ | ⟨n, t, a1, a2, ft, f1, f2, hn, h1, h2, h3, h4, e⟩
      · exact Or.inl ⟨n, v, hn, h _ _ hg, e⟩
      · exact Or.inr (Or.inl ⟨n, k, hn, h _ _ hg, hk, e⟩)
      · exact Or.inr (Or.inr (Or.inl ⟨n, nl, nd, ns, nv, pl, sb, dl, sv, N, cap, cnt, mc, ml, fa, sg, ad, fs, hn, h _ _ h1, h _ _ h2, h _ _ h3, h _ _ h4, h _ _ h5, h6, fun j hj => ⟨(h7 j hj).1, (h7 j hj).2.1, ih _ _ _ (h7 j hj).2.2⟩, e⟩))
      · exact Or.inr (Or.inr (Or.inr ⟨n, t, a1, a2, ft, f1, f2, hn, h _ _ h1, ih _ _ _ h2, ih _ _ _ h3, ih _ _ _ h4, e⟩))
    | true =>
      rcases q with ⟨n, sg, a1, a2, f1, f2, hn, h1, h2, h3, e⟩ | ⟨n, nl, nd, tl, dl, N, cnt, all, mc, fa, ad, fs, hn, h1, ha, h2, h3, h4, h5, e⟩
      · exact Or.inl ⟨n, sg, a1, a2, f1, f2, hn, h _ _ h1, ih _ _ _ h2, ih _ _ _ h3, e⟩
      · exact Or.inr ⟨n, nl, nd, tl, dl, N, cnt, all, mc, fa, ad, fs, hn, h _ _ h1, ha, h _ _ h2, h _ _ h3, h4, fun j hj => ⟨(h5 j hj).1, ih _ _ _ (h5 j hj).2⟩, e⟩
theorem kF_mono {gF gF' : xG} {σ : KS} {F : Nat → Option (aEnv → Int64)} (h : kF gF σ F) (hs : ∀ n x, gF n = some x → gF' n = some x) : kF gF' σ F := by
  intro j hj
  rcases h j hj with q | ⟨a, fn, q1, q2, q3, q4⟩
  · exact Or.inl q
  · exact Or.inr ⟨a, fn, q1, q2, aR_sub hs _ _ _ _ q3, q4⟩
theorem kCrack_01 {gF : xG} {σ : KS} {F : Nat → Option (aEnv → Int64)} (h : kF gF σ F) (ch : Nat) (x y : Int32) : kCrack F σ ch x y = 0 ∨ kCrack F σ ch x y = 1 := by
  unfold kCrack
  rcases h 2 (by decide) with q | ⟨a, fn, q1, q2, q3, q4⟩
  · rw [q.2]; exact Or.inl rfl
  · rw [q2]
    rcases aR_01 q3 (ePut (eC σ e00 ch x y) 5 (kTemp F σ ch x y)) with e | e
    · left; show (fn _).toInt32 = 0; rw [e]; rfl
    · right; show (fn _).toInt32 = 1; rw [e]; rfl
theorem vp01 {x : Int32} (h : x = 0 ∨ x = 1) : vp_nar .boolean x = x := by rcases h with rfl | rfl <;> rfl
/-- what a bench has laid: of the children below c all, of c the first p places -/
def kBt (V : Nat → Nat → Int32) (σ : KS) (kq c p : Nat) : Nat → Nat → Int32 := fun j q => if (j < c ∨ j = c ∧ q < p) ∧ kO σ 0 j 0 = some kq ∧ q < kA σ 25 kq then V j q else 0
theorem kBt_step {V : Nat → Nat → Int32} {σ : KS} {kq c p : Nat} (h1 : kO σ 0 c 0 = some kq) (h2 : p < kA σ 25 kq) : k2s (kBt V σ kq c p) c p (V c p) = kBt V σ kq c (p + 1) := by
  funext j q
  unfold k2s kBt
  by_cases e : j = c ∧ q = p
  · obtain ⟨rfl, rfl⟩ := e
    rw [if_pos ⟨rfl, rfl⟩, if_pos ⟨Or.inr ⟨rfl, by omega⟩, h1, h2⟩]
  · rw [if_neg e]
    by_cases e2 : (j < c ∨ j = c ∧ q < p) ∧ kO σ 0 j 0 = some kq ∧ q < kA σ 25 kq
    · rw [if_pos e2, if_pos ⟨by rcases e2.1 with q | q; exact Or.inl q; exact Or.inr ⟨q.1, by omega⟩, e2.2⟩]
    · rw [if_neg e2, if_neg (fun q => e2 ⟨by rcases q.1 with r | r; exact Or.inl r; exact Or.inr ⟨r.1, by omega⟩, q.2⟩)]
theorem kBt_in {V : Nat → Nat → Int32} {σ : KS} {kq c p : Nat} (h2 : kA σ 25 kq ≤ p) : kBt V σ kq c p = kBt V σ kq (c + 1) 0 := by
  funext j q
  unfold kBt
  by_cases e2 : (j < c ∨ j = c ∧ q < p) ∧ kO σ 0 j 0 = some kq ∧ q < kA σ 25 kq
  · rw [if_pos e2, if_pos ⟨Or.inl (by omega), e2.2⟩]
  · rw [if_neg e2, if_neg (fun r => e2 ⟨by omega, r.2⟩)]
theorem kBt_out {V : Nat → Nat → Int32} {σ : KS} {kq c : Nat} (h1 : kO σ 0 c 0 ≠ some kq) : kBt V σ kq c 0 = kBt V σ kq (c + 1) 0 := by
  funext j q
  unfold kBt
  by_cases e2 : (j < c ∨ j = c ∧ q < 0) ∧ kO σ 0 j 0 = some kq ∧ q < kA σ 25 kq
  · rw [if_pos e2, if_pos ⟨Or.inl (by omega), e2.2⟩]
  · rw [if_neg e2, if_neg (fun r => by
      by_cases e3 : j = c
      · subst e3; exact h1 r.2.1
      · exact e2 ⟨by omega, r.2⟩)]
theorem kBt_0 {V : Nat → Nat → Int32} {σ : KS} {kq : Nat} : kBt V σ kq 0 0 = fun _ _ => 0 := by
  funext j q
  unfold kBt
  exact if_neg (by omega)
/-- no bench stands in the frame -/
def kNB (gF : xG) : Prop := ∀ n : xN, 55 ≤ n.1 → n.1 ≤ 59 → gF n = none
theorem kBF_sub {gF : xG} (h : kNB gF) {a aT aC kl : Nat} {hh : Int32} {o : Nat} {t k : Nat → Nat → Int32} (n : xN) (x : Nat × xE) (hx : gF n = some x) : kBF gF a aT aC kl hh o t k n = some x := by
  have hn : ¬ (55 ≤ n.1 ∧ n.1 ≤ 59) := fun q => by rw [h n q.1 q.2] at hx; cases hx
  obtain ⟨n1, n2⟩ := n
  dsimp only at hn
  unfold kBF
  rw [if_neg (fun q => by cases q; omega), if_neg (fun q => by cases q; omega), if_neg (fun q => by have := q.1; dsimp only at this; omega), if_neg (fun q => by cases q; omega), if_neg (fun q => by have := q.1; dsimp only at this; omega)]
  exact hx
