/-! X LAYER: switches, weakening of locals, joins; the asking array -/
def xle : xL → xL → Prop
  | [], [] => True
  | none :: r, _ :: r' => xle r r'
  | some v :: r, y :: r' => y = some v ∧ xle r r'
  | _, _ => False
theorem xle.len : ∀ {a b : xL}, xle a b → a.length = b.length := by
  intro a
  induction a with
  | nil => intro b h; cases b with
    | nil => rfl
    | cons y r => exact absurd h (by simp [xle])
  | cons x r ih =>
    intro b h
    cases b with
    | nil => cases x <;> exact absurd h (by simp [xle])
    | cons y r' =>
      cases x with
      | none => simp [ih (show xle r r' from h)]
      | some v => simp [ih (show xle r r' from h.2)]
theorem xle.get : ∀ {a b : xL}, xle a b → ∀ (i : Nat) (v : Value), xg a i = some v → xg b i = some v := by
  intro a
  induction a with
  | nil => intro b h i v hv; simp [xg] at hv
  | cons x r ih =>
    intro b h i v hv
    cases b with
    | nil => cases x <;> exact absurd h (by simp [xle])
    | cons y r' =>
      cases x with
      | none =>
        cases i with
        | zero => simp [xg] at hv
        | succ i => exact ih (show xle r r' from h) i v hv
      | some u =>
        cases i with
        | zero => simp only [xg] at hv ⊢; rw [h.1, hv]
        | succ i => exact ih h.2 i v hv
section XMo
variable {p : Program} {l : Launch} {e : Env} {R : Room} {s : State} {m : MethodId} {args : Array Value} {below : List Frame} {meth : Method} {c : Code} {s0 : State} {D : va_G} {Q : State → Prop} {cells slots : Nat} {g : xG} {own : String} {cc : ByteArray} {pc q : Nat} {lv : xL} {st : List Value}
theorem x_lvle {lv' : xL} (h : xle lv' lv) (k : XW p l e R s m args below meth c s0 D Q cells slots g pc lv' st) : XW p l e R s m args below meth c s0 D Q cells slots g pc lv st := x_lvsub h.len h.get k
theorem x_tableIn (hC : xC p l s0 s D m args meth c own cc) {dflt lo hi : Int} {offs : Array Int} {len : Nat} {x : Int32} {off : Int} {tgt : Nat} (d : decode cc pc = .ok (.tableswitch dflt lo hi offs, len)) (h1 : ¬ x.toInt < lo) (h2 : ¬ hi < x.toInt) (ho : offs[(x.toInt - lo).toNat]? = some off) (ht : (pc : Int) + off = (tgt : Int)) (k : XW p l e R s m args below meth c s0 D Q cells slots g tgt lv st) : XW p l e R s m args below meth c s0 D Q cells slots g pc lv (.int x :: st) := by
  intro H locs ls hm hI hS hl; exact lv_tableIn hC.1 hC.2.1 d h1 h2 ho ht (k H locs ls hm hI hS hl)
theorem x_tableOut (hC : xC p l s0 s D m args meth c own cc) {dflt lo hi : Int} {offs : Array Int} {len : Nat} {x : Int32} {tgt : Nat} (d : decode cc pc = .ok (.tableswitch dflt lo hi offs, len)) (h : x.toInt < lo ∨ hi < x.toInt) (ht : (pc : Int) + dflt = (tgt : Int)) (k : XW p l e R s m args below meth c s0 D Q cells slots g tgt lv st) : XW p l e R s m args below meth c s0 D Q cells slots g pc lv (.int x :: st) := by
  intro H locs ls hm hI hS hl; exact lv_tableOut hC.1 hC.2.1 d h ht (k H locs ls hm hI hS hl)
/-- a join: the states S a with P a at pc' are all walked once -/
theorem x_cut {α : Type} (pc' : Nat) (S : α → Nat × Nat × xG × xL × List Value) (P : α → Prop) (k : ∀ a : α, P a → XW p l e R s m args below meth c s0 D Q (S a).1 (S a).2.1 (S a).2.2.1 pc' (S a).2.2.2.1 (S a).2.2.2.2) (b : (∀ a : α, P a → XW p l e R s m args below meth c s0 D Q (S a).1 (S a).2.1 (S a).2.2.1 pc' (S a).2.2.2.1 (S a).2.2.2.2) → XW p l e R s m args below meth c s0 D Q cells slots g pc lv st) : XW p l e R s m args below meth c s0 D Q cells slots g pc lv st := b k
/-- a join with one int more on the stack, all else as it is -/
theorem x_cutI (pc' : Nat) (P : Int32 → Prop) (k : ∀ x : Int32, P x → XW p l e R s m args below meth c s0 D Q cells slots g pc' lv (.int x :: st)) (b : (∀ x : Int32, P x → XW p l e R s m args below meth c s0 D Q cells slots g pc' lv (.int x :: st)) → XW p l e R s m args below meth c s0 D Q cells slots g pc lv st) : XW p l e R s m args below meth c s0 D Q cells slots g pc lv st := b k
theorem x_cut0 (pc' : Nat) (k : XW p l e R s m args below meth c s0 D Q cells slots g pc' lv st) (b : XW p l e R s m args below meth c s0 D Q cells slots g pc' lv st → XW p l e R s m args below meth c s0 D Q cells slots g pc lv st) : XW p l e R s m args below meth c s0 D Q cells slots g pc lv st := b k
theorem x_steq {st1 : List Value} (h : st = st1) (k : XW p l e R s m args below meth c s0 D Q cells slots g pc lv st1) : XW p l e R s m args below meth c s0 D Q cells slots g pc lv st := by subst h; exact k
end XMo
/-- a cell gets another name -/
theorem xI.ren {s0 : State} {D : va_G} {g : xG} {H : Heap} (n n' : xN) (hd : n.1 < 1000) (hd' : n'.1 < 1000) (hn : g n' = none) (h : xI s0 D g H) : xI s0 D (xu (xu g n none) n' (g n)) H := by
  have key : ∀ (k : xN) (x : Nat × xE), xu (xu g n none) n' (g n) k = some x → ∃ j : xN, g j = some x ∧ (k = n' ∧ j = n ∨ k = j ∧ k ≠ n ∧ k ≠ n') := by
    intro k x hk
    by_cases e : k = n'
    · rw [e, xu_eq] at hk
      exact ⟨n, hk, Or.inl ⟨e, rfl⟩⟩
    · rw [xu_ne e] at hk
      by_cases e2 : k = n
      · rw [e2, xu_eq] at hk; cases hk
      · rw [xu_ne e2] at hk
        exact ⟨k, hk, Or.inr ⟨rfl, e2, e⟩⟩
  obtain ⟨h1, h2, h3, h4⟩ := h
  refine ⟨h1, h2, fun k a x hk => ?_, fun k j a x y dk dj hk hj => ?_⟩
  · obtain ⟨i, hi, q⟩ := key k _ hk
    rcases q with ⟨q1, q2⟩ | ⟨q1, -, -⟩
    · rw [q2] at hi
      rcases h3 n a x hi with w | w | w
      · exact Or.inl ⟨by rw [q1]; exact hd', w.2⟩
      · have := w.1.1; omega
      · have := w.1; omega
    · rw [← q1] at hi; exact h3 k a x hi
  · obtain ⟨i, hi, q⟩ := key k _ hk
    obtain ⟨i', hi', q'⟩ := key j _ hj
    have d1 : xdn i := by
      rcases q with ⟨-, q2⟩ | ⟨q1, -⟩
      · rw [q2]; exact Or.inl hd
      · rw [← q1]; exact dk
    have d2 : xdn i' := by
      rcases q' with ⟨-, q2⟩ | ⟨q1, -⟩
      · rw [q2]; exact Or.inl hd
      · rw [← q1]; exact dj
    have e := h4 i i' a x y d1 d2 hi hi'
    rcases q with ⟨q1, q2⟩ | ⟨q1, q2, q3⟩ <;> rcases q' with ⟨r1, r2⟩ | ⟨r1, r2, r3⟩
    · rw [q1, r1]
    · exact absurd (r1.trans (e.symm.trans q2)) r2
    · exact absurd (q1.trans (e.trans r2)) q2
    · rw [q1, r1, e]
/-- a weaker end -/
theorem xMet.post {l : Launch} {s0 : State} {D : va_G} {y : MethodName} {b : ByteArray} {L : Nat} {r : Option FieldType} {rm : Room} {av : List Value} {g : xG} {p1 p2 : Option Value → xG → Prop} (h : xMet l s0 D y b L r rm av g p1) (hp : ∀ v g1, p1 v g1 → p2 v g1) : xMet l s0 D y b L r rm av g p2 := by
  intro p e ha hc hk s m args below hf hpre hP hK
  obtain ⟨k, o, h1, h2, h3, ⟨v, g', h4, h5, h6⟩, h7⟩ := h p e ha hc hk s m args below hf hpre hP hK
  exact ⟨k, o, h1, h2, h3, ⟨v, g', h4, hp _ _ h5, h6⟩, h7⟩
theorem x_ren {p : Program} {l : Launch} {e : Env} {R : Room} {s : State} {m : MethodId} {args : Array Value} {below : List Frame} {meth : Method} {c : Code} {s0 : State} {D : va_G} {Q : State → Prop} {cells slots : Nat} {g : xG} {pc : Nat} {lv : xL} {st : List Value} (n n' : xN) (hd : Nat.blt n.1 1000 = true) (hd' : Nat.blt n'.1 1000 = true) (hn : g n' = none) (k : XW p l e R s m args below meth c s0 D Q cells slots (xu (xu g n none) n' (g n)) pc lv st) : XW p l e R s m args below meth c s0 D Q cells slots g pc lv st := by
  intro H locs ls hm hI hS hl
  exact k H locs ls hm (hI.ren n n' (Nat.le_of_ble_eq_true hd) (Nat.le_of_ble_eq_true hd') hn) hS hl
/-- the state with another asking array -/
def kT (σ : KS) (f : Nat → Int64) : KS := (σ.1, σ.2.1, σ.2.2.1, σ.2.2.2.1, fun a j => if a = 0 then f j else σ.2.2.2.2 a j)
theorem kT_kT (σ : KS) (f f' : Nat → Int64) : kT (kT σ f) f' = kT σ f' := by
  simp only [kT]
  congr 4
  funext a j
  split <;> rfl
theorem kI_kT (σ : KS) (f : Nat → Int64) : kI (kT σ f) = kI σ := rfl
theorem kA_kT (σ : KS) (f : Nat → Int64) : kA (kT σ f) = kA σ := rfl
theorem kO_kT (σ : KS) (f : Nat → Int64) : kO (kT σ f) = kO σ := rfl
theorem kV_kT (σ : KS) (f : Nat → Int64) : kV (kT σ f) = kV σ := rfl
theorem kL_kT0 (σ : KS) (f : Nat → Int64) (j : Nat) : kL (kT σ f) 0 j = f j := rfl
theorem kL_kT1 (σ : KS) (f : Nat → Int64) (j : Nat) : kL (kT σ f) 1 j = kL σ 1 j := rfl
theorem kT_self (σ : KS) : kT σ (kL σ 0) = σ := by
  obtain ⟨a, b, c, d, e⟩ := σ
  simp only [kT, kL]
  congr 4
  funext x j
  split
  · next h => rw [h]
  · rfl
/-- a write into the asking array -/
theorem kf_ask {σ : KS} {gF : xG} {f : Nat → Int64} {j : Nat} {x : Int64} : xu (kmix (kT σ f) gF) (9, 0) (some (kA σ 9 0, xAl 10 (vp_updL (fun j => kL (kT σ f) 0 j) j x))) = kmix (kT σ (vp_updL f j x)) gF := by
  refine kfold rfl ?_ ?_
  · rfl
  · intro k' i' h
    unfold kenc
    split <;> first | rfl | skip
    all_goals (split <;> first | exact absurd rfl h | rfl)
