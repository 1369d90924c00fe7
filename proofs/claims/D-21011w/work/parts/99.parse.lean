/-! the grammar of formulas, and how a formula lies among names (200, i) -/
abbrev pR : Type := (aEnv → Int64) × Nat × List Tk
abbrev pP : Type := List Tk → Option pR
def pNo : pP := fun _ => none
def isQ (tk : List Tk) : Bool := hdS tk 43 || hdS tk 45
def isA (tk : List Tk) : Bool := hdS tk 60 || (hdS tk 62 || hdS tk 61)
/-- the letter of the sign in hand -/
def sgn (tk : List Tk) : Nat := (tk.headD (0, [])).2.headD 0
def askIx (fr to : Nat) (w : List Nat) : Nat → Nat → Option Nat
  | _, 0 => none
  | k, n + 1 => if (k < 2 ∨ fr ≤ k ∧ k ≤ to) ∧ cW (60 + k) = w then some k else askIx fr to w (k + 1) n
def pTake (c : Nat) (tk : List Tk) : Option (List Tk) := if hdS tk c then some tk.tail else none
def pChosen (S T : pP) : pP := fun ts => (pTake 40 ts).bind fun t1 => (T t1).bind fun r0 => (pTake 44 r0.2.2).bind fun t3 => (S t3).bind fun r1 => (pTake 44 r1.2.2).bind fun t5 => (S t5).bind fun r2 => (pTake 41 r2.2.2).bind fun t7 => some (fun e => if r0.1 e = 0 then r2.1 e else r1.1 e, max r0.2.1 (max r1.2.1 r2.2.1) + 1, t7)
def pWord (fr to : Nat) (S T : pP) : pP := fun tk => match askIx fr to (tk.headD (0, [])).2 0 10 with
  | some k => some (fun e => e k, 1, tk.tail)
  | none => if hdW tk (cW 7) then pChosen S T tk.tail else none
def pPart (fr to : Nat) (S T : pP) : pP := fun tk => if hdk tk = 2 then some (fun _ => (nI (sN (tk.headD (0, [])).2)).toInt64, 1, tk.tail) else if hdk tk = 1 then pWord fr to S T tk else (pTake 40 tk).bind fun t1 => (S t1).bind fun r => (pTake 41 r.2.2).bind fun t3 => some (r.1, r.2.1, t3)
def pChain (sgs : List Nat) (fs : List (aEnv → Int64)) : aEnv → Int64 := fun e => aFold (fun j => nI (sgs.getD j 0)) (fun j => fs.getD j (fun _ => 0)) e (fs.length - 1)
def pMore (isS : List Tk → Bool) (P : pP) : Nat → List Nat → List (aEnv → Int64) → Nat → pP
  | 0, _, _, _, _ => none
  | n + 1, sgs, fs, d, tk => if isS tk then (P tk.tail).bind fun r => pMore isS P n (sgs ++ [sgn tk]) (fs ++ [r.1]) (max d r.2.1) r.2.2 else some (pChain sgs fs, d + 1, tk)
def pCh (isS : List Tk → Bool) (P : pP) (c : Nat) : pP := fun tk => (P tk).bind fun r => if isS r.2.2 then pMore isS P 9 [c] [r.1] r.2.1 r.2.2 else some r
def pProd (fr to : Nat) (S T : pP) : pP := pCh isP (pPart fr to S T) 42
def pSum (fr to : Nat) (S T : pP) : pP := pCh isQ (pProd fr to S T) 43
def pAg (S : pP) : pP := fun tk => (S tk).bind fun r => if isA r.2.2 then (S r.2.2.tail).bind fun r2 => some (fun e => aCmp (nI (sgn r.2.2)) (r.1 e) (r2.1 e), max r.2.1 r2.2.1 + 1, r2.2.2) else none
def pFact (S : pP) : pP := fun tk => if hdW tk (cW 8) || (hdS tk 91 || hdW tk (cW 9)) then none else pAg S tk
def pTests (all : Int64) (fs : List (aEnv → Int64)) : aEnv → Int64 := fun e => aSev all (fun j => fs.getD j (fun _ => 0)) e 0 fs.length
def pMoreW (w : List Nat) (all : Int64) (P : pP) : Nat → List (aEnv → Int64) → Nat → pP
  | 0, _, _, _ => none
  | n + 1, fs, d, tk => if hdW tk w then (P tk.tail).bind fun r => pMoreW w all P n (fs ++ [r.1]) (max d r.2.1) r.2.2 else some (pTests all fs, d + 1, tk)
def pSev (w : List Nat) (all : Int64) (P : pP) : pP := fun tk => (P tk).bind fun r => if hdW r.2.2 w then pMoreW w all P 9 [r.1] r.2.1 r.2.2 else some r
def pBoth (S : pP) : pP := pSev (cW 10) 1 (pFact S)
def pTest (S : pP) : pP := pSev (cW 11) 0 (pBoth S)
def pLv (fr to : Nat) : Nat → pP × pP
  | 0 => (pSum fr to pNo pNo, pTest (pSum fr to pNo pNo))
  | n + 1 => (pSum fr to (pLv fr to n).1 (pLv fr to n).2, pTest (pSum fr to (pLv fr to n).1 (pLv fr to n).2))
theorem n_fst {a i b j : Nat} (h : Nat.beq a b = false) : ((a, i) : xN) ≠ (b, j) := fun q => by
  have := congrArg Prod.fst q
  dsimp only at this
  rw [this, Nat.beq_refl] at h
  cases h
theorem n_snd {a i j : Nat} (h : i ≠ j) : ((a, i) : xN) ≠ (a, j) := fun q => h (congrArg Prod.snd q)
theorem n40 {i : Nat} : 40 ≤ ((200, i) : xN).1 := Nat.le_of_ble_eq_true rfl
/-- the names (200, i) with lo <= i < hi -/
def fW (lo hi : Nat) (g : xG) : xG := fun n => if n.1 = 200 ∧ lo ≤ n.2 ∧ n.2 < hi then g n else none
def PF (N : Nat) (g g' : xG) : Prop := ∀ n : xN, n ≠ (60, 0) → n ≠ (61, 0) → n ≠ (62, 0) → ¬ (n.1 = 200 ∧ N ≤ n.2) → g' n = g n
def FR (N : Nat) (g : xG) : Prop := (∀ i, N ≤ i → g (200, i) = none) ∧ g (63, 0) = none
theorem fW_at {lo hi i : Nat} {g : xG} (h1 : lo ≤ i) (h2 : i < hi) : fW lo hi g (200, i) = g (200, i) := if_pos ⟨rfl, h1, h2⟩
theorem fW_ext {lo hi : Nat} {g g' : xG} (h : ∀ i, lo ≤ i → i < hi → g' (200, i) = g (200, i)) : fW lo hi g' = fW lo hi g := by
  funext n
  obtain ⟨a, i⟩ := n
  unfold fW
  split
  · next q =>
    obtain ⟨q1, q2, q3⟩ := q
    simp only at q1 q2 q3
    subst q1
    exact h i q2 q3
  · rfl
theorem aR_fW {g : xG} {lo hi lo' hi' d a : Nat} {b : Bool} {f : aEnv → Int64} (h : aR (fW lo hi g) d b a f) (h1 : lo' ≤ lo) (h2 : hi ≤ hi') : aR (fW lo' hi' g) d b a f := aR_sub (fun n x q => by
  unfold fW at q ⊢
  split at q
  · next e => rw [if_pos ⟨e.1, by omega, by omega⟩]; exact q
  · cases q) d b a f h
theorem aR_out {g : xG} {lo hi d a : Nat} {b : Bool} {f : aEnv → Int64} (h : aR (fW lo hi g) d b a f) : aR g d b a f := aR_sub (fun n x q => by
  unfold fW at q
  split at q
  · exact q
  · cases q) d b a f h
theorem aR_s {g : xG} : ∀ (d : Nat) (b : Bool) (a : Nat) (f : aEnv → Int64), aR g d b a f → aR g (d + 1) b a f := by
  intro d
  induction d with
  | zero => intro b a f q; cases b <;> exact absurd q id
  | succ d ih =>
    intro b a f q
    cases b with
    | false =>
      rcases q with q | q | ⟨n, nl, nd, ns, nv, pl, sb, dl, sv, N, cap, cnt, mc, ml, fa, sg, ad, fs, hn, h1, h2, h3, h4, h5, h6, h7, e⟩ | ⟨n, t, a1, a2, ft, f1, f2, hn, h1, h2, h3, h4, e⟩
      · exact Or.inl q
      · exact Or.inr (Or.inl q)
      · exact Or.inr (Or.inr (Or.inl ⟨n, nl, nd, ns, nv, pl, sb, dl, sv, N, cap, cnt, mc, ml, fa, sg, ad, fs, hn, h1, h2, h3, h4, h5, h6, fun j hj => ⟨(h7 j hj).1, (h7 j hj).2.1, ih _ _ _ (h7 j hj).2.2⟩, e⟩))
      · exact Or.inr (Or.inr (Or.inr ⟨n, t, a1, a2, ft, f1, f2, hn, h1, ih _ _ _ h2, ih _ _ _ h3, ih _ _ _ h4, e⟩))
    | true =>
      rcases q with ⟨n, sg, a1, a2, f1, f2, hn, h1, h2, h3, e⟩ | ⟨n, nl, nd, tl, dl, N, cnt, all, mc, fa, ad, fs, hn, h1, ha, h2, h3, h4, h5, e⟩
      · exact Or.inl ⟨n, sg, a1, a2, f1, f2, hn, h1, ih _ _ _ h2, ih _ _ _ h3, e⟩
      · exact Or.inr ⟨n, nl, nd, tl, dl, N, cnt, all, mc, fa, ad, fs, hn, h1, ha, h2, h3, h4, fun j hj => ⟨(h5 j hj).1, ih _ _ _ (h5 j hj).2⟩, e⟩
theorem aR_up {g : xG} {d d' a : Nat} {b : Bool} {f : aEnv → Int64} (h : aR g d b a f) (hd : d ≤ d') : aR g d' b a f := by
  obtain ⟨k, rfl⟩ := Nat.exists_eq_add_of_le hd
  induction k with
  | zero => exact h
  | succ k ih => exact aR_s _ _ _ _ (ih (by omega))
/-- the formula's own cell -/
theorem aR_cell {g : xG} {lo hi d a : Nat} {b : Bool} {f : aEnv → Int64} (h : aR (fW lo hi g) d b a f) : ∃ (i : Nat) (x : xE), lo ≤ i ∧ i < hi ∧ g (200, i) = some (a, x) ∧ Cond.castable (xnm x) "java/lang/Object" ∈ lw_tbl := by
  have key : ∀ {n : xN} {x : xE}, fW lo hi g n = some (a, x) → Cond.castable (xnm x) "java/lang/Object" ∈ lw_tbl → ∃ (i : Nat) (x : xE), lo ≤ i ∧ i < hi ∧ g (200, i) = some (a, x) ∧ Cond.castable (xnm x) "java/lang/Object" ∈ lw_tbl := by
    intro n x q hc
    obtain ⟨n1, i⟩ := n
    unfold fW at q
    split at q
    · next e =>
      obtain ⟨e1, e2, e3⟩ := e
      simp only at e1 e2 e3
      subst e1
      exact ⟨i, x, e2, e3, q, hc⟩
    · cases q
  cases d with
  | zero => cases b <;> exact absurd h id
  | succ d =>
    cases b with
    | false =>
      rcases h with ⟨n, v, hn, hg, e⟩ | ⟨n, k, hn, hg, hk, e⟩ | ⟨n, nl, nd, ns, nv, pl, sb, dl, sv, N, cap, cnt, mc, ml, fa, sg, ad, fs, hn, h1, -⟩ | ⟨n, t, a1, a2, ft, f1, f2, hn, h1, -⟩
      · exact key hg q2180
      · exact key hg q2181
      · exact key h1 q2188
      · exact key h1 q2186
    | true =>
      rcases h with ⟨n, sg, a1, a2, f1, f2, hn, h1, -⟩ | ⟨n, nl, nd, tl, dl, N, cnt, all, mc, fa, ad, fs, hn, h1, -⟩
      · exact key h1 q2183
      · exact key h1 q2185
theorem PF.r0 {N : Nat} {g : xG} : PF N g g := fun _ _ _ _ _ => Eq.refl _
theorem PF.trans {N N1 : Nat} {g g1 g2 : xG} (h1 : PF N g g1) (h2 : PF N1 g1 g2) (h : N ≤ N1) : PF N g g2 := fun n a b c q => (h2 n a b c (fun r => q ⟨r.1, by omega⟩)).trans (h1 n a b c q)
theorem PF.px {N : Nat} {g g1 : xG} (h : PX g g1) : PF N g g1 := fun n a b c _ => h n a b c
theorem PF.u {N i : Nat} {g g1 : xG} (h : PF N g g1) (hi : N ≤ i) (x : Option (Nat × xE)) : PF N g (xu g1 (200, i) x) := fun n a b c q => by
  rw [xu_ne (fun r => q (by rw [r]; exact ⟨Eq.refl _, hi⟩))]
  exact h n a b c q
theorem PF.u60 {N : Nat} {g g1 : xG} (h : PF N g g1) (x : Option (Nat × xE)) : PF N g (xu g1 (60, 0) x) := fun n a b c q => by rw [xu_ne a]; exact h n a b c q
theorem PF.at {N i : Nat} {g g1 : xG} (h : PF N g g1) (hi : i < N) : g1 (200, i) = g (200, i) := h _ (n_fst rfl) (n_fst rfl) (n_fst rfl) (fun q => absurd q.2 (by show ¬ N ≤ i; omega))
theorem PF.fW {N lo hi : Nat} {g g1 : xG} (h : PF N g g1) (h1 : hi ≤ N) : fW lo hi g1 = fW lo hi g := fW_ext fun i _ q => h.at (by omega)
theorem PE.pf {g g1 : xG} {Z : Nat × Nat × Nat} {tx : List Nat} {A V B : Nat → Nat} {N : Nat} (h : PE g Z tx A V B) (hx : PF N g g1) : PE g1 Z tx A V B := by
  obtain ⟨⟨rest, ta, T, h1, h2, h3⟩, h4, h5, h6, h7⟩ := h
  exact ⟨⟨rest, ta, T, by rw [hx _ (by decide) (by decide) (by decide) (fun q => absurd q.1 (by decide))]; exact h1, by rw [hx _ (by decide) (by decide) (by decide) (fun q => absurd q.1 (by decide))]; exact h2, h3⟩, h4, h5, h6, h7.ext fun n hn => hx n (fun q => by rw [q] at hn; exact absurd hn (by decide)) (fun q => by rw [q] at hn; exact absurd hn (by decide)) (fun q => by rw [q] at hn; exact absurd hn (by decide)) (fun q => by rw [q.1] at hn; exact absurd hn (by decide))⟩
theorem xE0.pf {s0 : State} {g g1 : xG} {d0 N : Nat} (h : xE0 s0 g d0) (hx : PF N g g1) : xE0 s0 g1 d0 := by
  obtain ⟨h1, f, h2⟩ := h
  exact ⟨h1, f, by rw [hx _ (by decide) (by decide) (by decide) (fun q => absurd q.1 (by decide))]; exact h2⟩
theorem FR.px {N : Nat} {g g1 : xG} (h : FR N g) (hx : PX g g1) : FR N g1 := ⟨fun i hi => by rw [hx _ (n_fst rfl) (n_fst rfl) (n_fst rfl)]; exact h.1 i hi, by rw [hx _ (by decide) (by decide) (by decide)]; exact h.2⟩
theorem FR.le {N N1 : Nat} {g : xG} (h : FR N g) (hn : N ≤ N1) : FR N1 g := ⟨fun i hi => h.1 i (by omega), h.2⟩
theorem FR.u {N i : Nat} {g : xG} (h : FR N g) (hi : i < N) (x : Option (Nat × xE)) : FR N (xu g (200, i) x) := ⟨fun j hj => by
  rw [xu_ne (n_snd (by omega))]
  exact h.1 j hj, by rw [xu_ne (n_fst rfl)]; exact h.2⟩
theorem FR.u60 {N : Nat} {g : xG} (h : FR N g) (x : Option (Nat × xE)) : FR N (xu g (60, 0) x) := ⟨fun j hj => by rw [xu_ne (n_fst rfl)]; exact h.1 j hj, by rw [xu_ne (by decide)]; exact h.2⟩
theorem PSt.pf {g g1 : xG} {N : Nat} {sc : Nat} {Z : Nat × Nat × Nat} {tx : List Nat} {fr to op : Nat} {sn : Bool} {tk : List Tk} (hq : PSt g sc Z tx fr to op sn tk) (h1 : g1 (60, 0) = g (60, 0)) (h2 : g1 (61, 0) = g (61, 0)) (h3 : g1 (62, 0) = g (62, 0)) : PSt g1 sc Z tx fr to op sn tk := by
  obtain ⟨at0, bd, pl, nb, wh, sg, wd, hc, hat, hb1, hb2, hpl, q | q | ⟨t, ts, q1, q2, q3, q4, q5, ⟨q6, q7⟩⟩⟩ := hq
  · exact ⟨at0, bd, pl, nb, wh, sg, wd, h1.trans hc, hat, hb1, hb2, hpl, Or.inl q⟩
  · exact ⟨at0, bd, pl, nb, wh, sg, wd, h1.trans hc, hat, hb1, hb2, hpl, Or.inr (Or.inl q)⟩
  · exact ⟨at0, bd, pl, nb, wh, sg, wd, h1.trans hc, hat, hb1, hb2, hpl, Or.inr (Or.inr ⟨t, ts, q1, q2, q3, q4, q5, fun e => by
      obtain ⟨wa, wv, e1, e2, e3, e4⟩ := q6 e
      exact ⟨wa, wv, e1, h2.trans e2, h3.trans e3, e4⟩, q7⟩)⟩
theorem PSt.u {g : xG} {i : Nat} {sc : Nat} {Z : Nat × Nat × Nat} {tx : List Nat} {fr to op : Nat} {sn : Bool} {tk : List Tk} (hq : PSt g sc Z tx fr to op sn tk) (x : Option (Nat × xE)) : PSt (xu g (200, i) x) sc Z tx fr to op sn tk := hq.pf (N := 0) (xu_ne (n_fst rfl)) (xu_ne (n_fst rfl)) (xu_ne (n_fst rfl))
theorem aFold_ext {sg sg' : Nat → Int32} {fs fs' : Nat → aEnv → Int64} {e : aEnv} : ∀ n, (∀ j, j ≤ n → sg j = sg' j ∧ fs j = fs' j) → aFold sg fs e n = aFold sg' fs' e n := by
  intro n
  induction n with
  | zero => intro h; show fs 0 e = fs' 0 e; rw [(h 0 (Nat.le_refl _)).2]
  | succ n ih =>
    intro h
    show aJ (sg (n + 1)) (aFold sg fs e n) (fs (n + 1) e) = aJ (sg' (n + 1)) (aFold sg' fs' e n) (fs' (n + 1) e)
    rw [ih (fun j hj => h j (by omega)), (h (n + 1) (Nat.le_refl _)).1, (h (n + 1) (Nat.le_refl _)).2]
theorem pMore_len {isS : List Tk → Bool} {P : pP} : ∀ (n : Nat) (sgs : List Nat) (fs : List (aEnv → Int64)) (d : Nat) (tk : List Tk) (r : pR), pMore isS P n sgs fs d tk = some r → fs.length = sgs.length → ∃ fs' sgs', r.1 = pChain sgs' fs' := by
  intro n
  induction n with
  | zero => intro sgs fs d tk r h; cases h
  | succ n ih =>
    intro sgs fs d tk r h hl
    unfold pMore at h
    split at h
    · cases hp : P tk.tail with
      | none => rw [hp] at h; cases h
      | some r2 =>
        rw [hp] at h
        exact ih _ _ _ _ _ h (by simp [hl])
    · cases h; exact ⟨_, _, rfl⟩
