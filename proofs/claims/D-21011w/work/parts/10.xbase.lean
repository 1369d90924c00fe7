/-! THE X LAYER: a named abstract heap over the kit's W. -/
abbrev xN : Type := Nat × Nat
abbrev xE : Type := (FieldType × vp_A) ⊕ (Nat × List Value)
abbrev xG : Type := xN → Option (Nat × xE)
abbrev xL : Type := List (Option Value)
/-- the named heap with one name changed (none: forgotten) -/
def xu (g : xG) (n : xN) (x : Option (Nat × xE)) : xG := fun k => if k = n then x else g k
theorem xu_eq (g : xG) (n : xN) (x : Option (Nat × xE)) : xu g n x n = x := by simp [xu]
theorem xu_ne {g : xG} {n k : xN} {x : Option (Nat × xE)} (h : k ≠ n) : xu g n x k = g k := by simp [xu, h]
theorem xu_xu (g : xG) (n : xN) (x y : Option (Nat × xE)) : xu (xu g n x) n y = xu g n y := by
  funext k
  unfold xu
  split <;> rfl
theorem xu_self {g : xG} {n : xN} {x : Option (Nat × xE)} (h : g n = x) : xu g n x = g := by
  funext k
  unfold xu
  split
  · next e => rw [e, h]
  · rfl
abbrev xAi (ty : FieldType) (n : Nat) (f : Nat → Int32) : xE := .inl (ty, n, .inl f)
abbrev xAl (n : Nat) (f : Nat → Int64) : xE := .inl (.long, n, .inr (.inl f))
abbrev xAr (ty : FieldType) (n : Nat) (f : Nat → Option Nat) : xE := .inl (ty, n, .inr (.inr (.inr (.inr f))))
abbrev xO (ci : Nat) (fs : List Value) : xE := .inr (ci, fs)
def TX12 : u_T := fun _ => ("", "", "", false)
def xcl : List vw_C := [(RX1, TX1, 12), (RX2, TX2, 16), (RX3, TX3, 10), (RX4, TX4, 1), (RX5, TX5, 14), (RX8, TX8, 9), (RX9, TX9, 5), (RX10, TX10, 1), (RX11, TX11, 1), (RX12, TX12, 0), (RX13, TX13, 3), (RX14, TX14, 1), (RX15, TX15, 2), (RX16, TX16, 3), (RX17, TX17, 3), (RX18, TX18, 2), (RX19, TX19, 19), (RX20, TX20, 5), (RX21, TX21, 5), (RX22, TX22, 7), (RX23, TX23, 7), (RJ3, TJ3, 3), (RJ5, TJ5, 4), (RJ6, TJ6, 4)]

def xat (s0 : State) (D : va_G) (a : Nat) (x : xE) (H : Heap) : Prop := match x with
  | .inl y => ∃ cA : ClassId, ArrOfT s0 cA y.1 ∧ va_RA s0 cA y.1 ∧ H[a]? = some (vp_cell cA y.2)
  | .inr o => va_at D xcl (a, .inr o) H
theorem xat.kept {s0 : State} {D : va_G} {a : Nat} {x : xE} {H H1 : Heap} (h : xat s0 D a x H) (e : H1[a]? = H[a]?) : xat s0 D a x H1 := by
  cases x with
  | inl y =>
    obtain ⟨cA, h1, h2, h3⟩ := h
    exact ⟨cA, h1, h2, e.trans h3⟩
  | inr o => exact va_at.kept (q := (a, .inr o)) h e
theorem xat.lt {s0 : State} {D : va_G} {a : Nat} {x : xE} {H : Heap} (h : xat s0 D a x H) : a < H.size := by
  cases x with
  | inl y =>
    obtain ⟨cA, h1, h2, h3⟩ := h
    exact (Array.getElem?_eq_some_iff.mp h3).1
  | inr o => exact va_at.lt (q := (a, .inr o)) h
/-- the values of an array -/
def xav (y : vp_A) (j : Nat) : Value := match y.2 with
  | .inl f => .int (f j)
  | .inr (.inl f) => .long (f j)
  | .inr (.inr (.inl f)) => .float (f j)
  | .inr (.inr (.inr (.inl f))) => .double (f j)
  | .inr (.inr (.inr (.inr f))) => va_rf (f j)
/-- a cell that was there at the law's start (String constants, static arrays): read only; of an object's fields those that are listed -/
def xats (s0 : State) (a : Nat) (x : xE) : Prop := match x with
  | .inl y => va_T y.1 a y.2.1 (xav y.2) (fun q => s0.heap.size ≤ q) s0 s0.heap
  | .inr o => ∃ r : vw_C, xcl[o.1]? = some r ∧ va_O r.1 a (fun q => s0.heap.size ≤ q) s0 s0.heap ∧ ∀ (k : Nat) (v : Value), o.2[k]? = some v → va_OF (r.2.1 k).1 (r.2.1 k).2.1 (r.2.1 k).2.2.1 v a (fun q => s0.heap.size ≤ q) s0 s0.heap
/-- a lambda's site, read at a state -/
def xsw (w : Cond) (s : State) : Option ClassId := match w with
  | .lambdaSite x pc i sh => (s.lambdaAt? x pc i sh).map (·.1)
  | _ => none
/-- the class of a lambda's objects: of the sites that capture -/
def xls (s0 : State) (ci : Nat) : Option ClassId := match ci with
  | 105 => xsw siteWord_1_5 s0
  | 106 => xsw siteWord_1_6 s0
  | 107 => xsw siteWord_1_7 s0
  | 108 => xsw siteWord_1_8 s0
  | _ => none
/-- a lambda's object -/
def xlm (s0 : State) (a : Nat) (x : xE) (H : Heap) : Prop := match x with
  | .inl _ => False
  | .inr o => 24 ≤ o.1 ∧ ∃ cK : ClassId, xls s0 o.1 = some cK ∧ H[a]? = some { cls := cK, slots := o.2.toArray, vm := .none }
theorem xlm.kept {s0 : State} {a : Nat} {x : xE} {H H1 : Heap} (h : xlm s0 a x H) (e : H1[a]? = H[a]?) : xlm s0 a x H1 := by
  cases x with
  | inl y => exact h
  | inr o =>
    obtain ⟨h1, cK, h2, h3⟩ := h
    exact ⟨h1, cK, h2, e.trans h3⟩
theorem xlm.lt {s0 : State} {a : Nat} {x : xE} {H : Heap} (h : xlm s0 a x H) : a < H.size := by
  cases x with
  | inl y => exact absurd h id
  | inr o =>
    obtain ⟨h1, cK, h2, h3⟩ := h
    exact (Array.getElem?_eq_some_iff.mp h3).1
/-- names of cells that were made since the law's start: kinds below 1000, and lambdas from 2000 on -/
def xdn (n : xN) : Prop := n.1 < 1000 ∨ 2000 ≤ n.1
/-- the heap holds the named cells; what lay there at the law's start is as it was; names of kind 1000 to 1999 are of the start's cells; from 2000 on of lambdas -/
def xI (s0 : State) (D : va_G) (g : xG) (H : Heap) : Prop :=
  s0.heap.size ≤ H.size ∧ (∀ q : Nat, q < s0.heap.size → H[q]? = s0.heap[q]?) ∧ (∀ (n : xN) (a : Nat) (x : xE), g n = some (a, x) → (n.1 < 1000 ∧ s0.heap.size ≤ a ∧ xat s0 D a x H) ∨ ((1000 ≤ n.1 ∧ n.1 < 2000) ∧ a < s0.heap.size ∧ xats s0 a x) ∨ (2000 ≤ n.1 ∧ s0.heap.size ≤ a ∧ xlm s0 a x H)) ∧ ∀ (n k : xN) (a : Nat) (x y : xE), xdn n → xdn k → g n = some (a, x) → g k = some (a, y) → n = k
theorem xI.at {s0 : State} {D : va_G} {g : xG} {H : Heap} {n : xN} {a : Nat} {x : xE} (h : xI s0 D g H) (hn : n.1 < 1000) (hg : g n = some (a, x)) : s0.heap.size ≤ a ∧ xat s0 D a x H := by
  rcases h.2.2.1 n a x hg with q | q | q
  · exact q.2
  · have := q.1.1; omega
  · have := q.1; omega
theorem xI.put {s0 : State} {D : va_G} {g : xG} {H H1 : Heap} {n : xN} {a : Nat} {x y : xE} (h : xI s0 D g H) (hd : n.1 < 1000) (hn : g n = some (a, x)) (hz : H1.size = H.size) (ho : ∀ q : Nat, q ≠ a → H1[q]? = H[q]?) (hy : xat s0 D a y H1) : xI s0 D (xu g n (some (a, y))) H1 := by
  have ha := (h.at hd hn).1
  obtain ⟨h1, h2, h3, h4⟩ := h
  refine ⟨by omega, fun q hq => ?_, fun k b z hk => ?_, fun k j b z z' dk dj hk hj => ?_⟩
  · rw [ho q (by omega)]; exact h2 q hq
  · by_cases e : k = n
    · subst e
      rw [xu_eq] at hk
      cases hk
      exact Or.inl ⟨hd, ha, hy⟩
    · rw [xu_ne e] at hk
      rcases h3 k b z hk with q | q | q
      · have hb : b ≠ a := fun q2 => e (h4 k n b z x (Or.inl q.1) (Or.inl hd) hk (by rw [q2]; exact hn))
        exact Or.inl ⟨q.1, q.2.1, q.2.2.kept (ho b hb)⟩
      · exact Or.inr (Or.inl q)
      · have hb : b ≠ a := fun q2 => e (h4 k n b z x (Or.inr q.1) (Or.inl hd) hk (by rw [q2]; exact hn))
        exact Or.inr (Or.inr ⟨q.1, q.2.1, q.2.2.kept (ho b hb)⟩)
  · have f : ∀ {i : xN} {v : xE}, xu g n (some (a, y)) i = some (b, v) → ∃ v', g i = some (b, v') := by
      intro i v hi
      by_cases e : i = n
      · subst e
        rw [xu_eq] at hi
        cases hi
        exact ⟨x, hn⟩
      · rw [xu_ne e] at hi
        exact ⟨v, hi⟩
    obtain ⟨v1, e1⟩ := f hk
    obtain ⟨v2, e2⟩ := f hj
    exact h4 k j b v1 v2 dk dj e1 e2
/-- a fresh cell gets a free name -/
theorem xI.new {s0 : State} {D : va_G} {g : xG} {H H1 : Heap} {n : xN} {a : Nat} {y : xE} (h : xI s0 D g H) (hd : n.1 < 1000) (hn : g n = none) (ha : H.size ≤ a) (hz : H.size ≤ H1.size) (ho : ∀ q : Nat, q < H.size → H1[q]? = H[q]?) (hy : xat s0 D a y H1) : xI s0 D (xu g n (some (a, y))) H1 := by
  obtain ⟨h1, h2, h3, h4⟩ := h
  have hlt : ∀ (k : xN) (b : Nat) (z : xE), g k = some (b, z) → b < H.size := fun k b z hk => by
    rcases h3 k b z hk with q | q | q
    · exact q.2.2.lt
    · have := q.2.1; omega
    · exact q.2.2.lt
  refine ⟨by omega, fun q hq => ?_, fun k b z hk => ?_, fun k j b z z' dk dj hk hj => ?_⟩
  · rw [ho q (by omega)]; exact h2 q hq
  · by_cases e : k = n
    · subst e
      rw [xu_eq] at hk
      cases hk
      exact Or.inl ⟨hd, by omega, hy⟩
    · rw [xu_ne e] at hk
      rcases h3 k b z hk with q | q | q
      · exact Or.inl ⟨q.1, q.2.1, q.2.2.kept (ho b (hlt k b z hk))⟩
      · exact Or.inr (Or.inl q)
      · exact Or.inr (Or.inr ⟨q.1, q.2.1, q.2.2.kept (ho b (hlt k b z hk))⟩)
  · by_cases e : k = n
    · by_cases e2 : j = n
      · rw [e, e2]
      · rw [e, xu_eq] at hk
        rw [xu_ne e2] at hj
        cases hk
        exact absurd (hlt j _ _ hj) (by omega)
    · by_cases e2 : j = n
      · rw [e2, xu_eq] at hj
        rw [xu_ne e] at hk
        cases hj
        exact absurd (hlt k _ _ hk) (by omega)
      · rw [xu_ne e] at hk
        rw [xu_ne e2] at hj
        exact h4 k j b z z' dk dj hk hj
/-- fewer names -/
theorem xI.sub {s0 : State} {D : va_G} {g g' : xG} {H : Heap} (h : xI s0 D g H) (hs : ∀ n x, g' n = some x → g n = some x) : xI s0 D g' H := by
  obtain ⟨h1, h2, h3, h4⟩ := h
  exact ⟨h1, h2, fun k b z hk => h3 k b z (hs _ _ hk), fun k j b z z' dk dj hk hj => h4 k j b z z' dk dj (hs _ _ hk) (hs _ _ hj)⟩
theorem xI.drop {s0 : State} {D : va_G} {g : xG} {H : Heap} (n : xN) (h : xI s0 D g H) : xI s0 D (xu g n none) H := by
  refine h.sub fun i x hi => ?_
  by_cases e : i = n
  · rw [e, xu_eq] at hi; cases hi
  · rwa [xu_ne e] at hi
/-- what holds at the law's start -/
def x0 (l : Launch) (s0 : State) (D : va_G) : Prop := l.flags = flags0 ∧ va_K D xcl [] s0 ∧ ∃ b0 : Addr, (∀ w ∈ lw_tbl, w.before #[Value.ref b0] s0 = true) ∧ (Jvm.Cond.and given_1 narrow_1).before #[Value.ref b0] s0 = true
/-- the locals -/
def xg : xL → Nat → Option Value
  | [], _ => none
  | x :: _, 0 => x
  | _ :: r, n + 1 => xg r n
def xk : Option Value → Option Value
  | some (.long _) => none
  | some (.double _) => none
  | y => y
def xs1 : xL → Nat → Value → xL
  | [], _, _ => []
  | _ :: r, 0, v => some v :: r
  | x :: r, 1, v => xk x :: xs1 r 0 v
  | x :: r, n + 2, v => x :: xs1 r (n + 1) v
/-- a store of a long: the place behind is taken -/
def xsk : xL → xL
  | [] => []
  | _ :: r => none :: r
def xs2 : xL → Nat → Value → xL
  | [], _, _ => []
  | _ :: r, 0, v => some v :: xsk r
  | x :: r, 1, v => xk x :: xs2 r 0 v
  | x :: r, n + 2, v => x :: xs2 r (n + 1) v
def xlv (ls : Array Slot) (lv : xL) : Prop := ls.size = lv.length ∧ lv_wf ls ∧ ∀ (i : Nat) (v : Value), xg lv i = some v → ls[i]? = some (.val v)
def xll : Nat → xL → List (Nat × Value)
  | _, [] => []
  | i, none :: r => xll (i + 1) r
  | i, some v :: r => (i, v) :: xll (i + 1) r
theorem xll_mem : ∀ (lv : xL) (i : Nat) (q : Nat × Value), q ∈ xll i lv ↔ i ≤ q.1 ∧ xg lv (q.1 - i) = some q.2 := by
  intro lv
  induction lv with
  | nil => intro i q; simp [xll, xg]
  | cons x r ih =>
    intro i q
    obtain ⟨j, v⟩ := q
    have key : (i + 1 ≤ j ∧ xg r (j - (i + 1)) = some v) ↔ (i ≤ j ∧ j ≠ i ∧ xg (x :: r) (j - i) = some v) := by
      constructor
      · rintro ⟨a, b⟩
        refine ⟨by omega, by omega, ?_⟩
        have : j - i = (j - (i + 1)) + 1 := by omega
        rw [this]
        exact b
      · rintro ⟨a, b, d⟩
        refine ⟨by omega, ?_⟩
        have : j - i = (j - (i + 1)) + 1 := by omega
        rw [this] at d
        exact d
    cases x with
    | none =>
      rw [xll, ih, key]
      constructor
      · rintro ⟨a, b, d⟩; exact ⟨a, d⟩
      · rintro ⟨a, d⟩
        refine ⟨a, fun e => ?_, d⟩
        simp only at e d
        subst e
        simp [xg] at d
    | some u =>
      rw [xll, List.mem_cons, ih, key]
      constructor
      · rintro (e | ⟨a, b, d⟩)
        · cases e
          simp [xg]
        · exact ⟨a, d⟩
      · rintro ⟨a, d⟩
        by_cases e : j = i
        · subst e
          left
          simp [xg] at d
          rw [d]
        · right
          exact ⟨a, e, d⟩
theorem xlv.has {ls : Array Slot} {lv : xL} (h : xlv ls lv) : lv_has ls lv.length (xll 0 lv) := ⟨h.1, h.2.1, fun q hq => h.2.2 q.1 q.2 (by have := ((xll_mem lv 0 q).mp hq).2; simpa using this)⟩
theorem xlv.of {ls : Array Slot} {lv : xL} {n : Nat} {q : List (Nat × Value)} (h : lv_has ls n q) (hn : n = lv.length) (hs : ∀ (i : Nat) (v : Value), xg lv i = some v → (i, v) ∈ q) : xlv ls lv := ⟨h.1.trans hn, h.2.1, fun i v hv => h.2.2 (i, v) (hs i v hv)⟩
theorem xs1_len : ∀ (lv : xL) (i : Nat) (v : Value), (xs1 lv i v).length = lv.length := by
  intro lv
  induction lv with
  | nil => intro i v; rfl
  | cons x r ih =>
    intro i v
    match i with
    | 0 => rfl
    | 1 => simp [xs1, ih]
    | n + 2 => simp [xs1, ih]
theorem xs2_len : ∀ (lv : xL) (i : Nat) (v : Value), (xs2 lv i v).length = lv.length := by
  intro lv
  induction lv with
  | nil => intro i v; rfl
  | cons x r ih =>
    intro i v
    match i with
    | 0 => cases r <;> simp [xs2, xsk]
    | 1 => simp [xs2, ih]
    | n + 2 => simp [xs2, ih]
theorem xk_some {x : Option Value} {w : Value} (h : xk x = some w) : x = some w ∧ w.category ≠ 2 := by
  cases x with
  | none => simp [xk] at h
  | some u => cases u <;> simp [xk] at h <;> (subst h; simp [Value.category])
theorem xs1_get : ∀ (lv : xL) (i : Nat) (v : Value) (j : Nat) (w : Value), i < lv.length → xg (xs1 lv i v) j = some w → (j = i ∧ w = v) ∨ (j ≠ i ∧ xg lv j = some w ∧ ¬ (j + 1 = i ∧ w.category = 2)) := by
  intro lv
  induction lv with
  | nil => intro i v j w hi; simp at hi
  | cons x r ih =>
    intro i v j w hi h
    match i, j with
    | 0, 0 => simp [xs1, xg] at h; exact Or.inl ⟨rfl, h.symm⟩
    | 0, j + 1 => simp [xs1, xg] at h; exact Or.inr ⟨by omega, h, by omega⟩
    | 1, 0 =>
      simp only [xs1, xg] at h
      have := xk_some h
      exact Or.inr ⟨by omega, this.1, fun q => this.2 q.2⟩
    | 1, j + 1 =>
      simp only [xs1, xg] at h
      rcases ih 0 v j w (by simpa using hi) h with ⟨a, b⟩ | ⟨a, b, d⟩
      · exact Or.inl ⟨by omega, b⟩
      · exact Or.inr ⟨by omega, b, by omega⟩
    | n + 2, 0 => simp only [xs1, xg] at h; exact Or.inr ⟨by omega, h, by omega⟩
    | n + 2, j + 1 =>
      simp only [xs1, xg] at h
      rcases ih (n + 1) v j w (by simp at hi; omega) h with ⟨a, b⟩ | ⟨a, b, d⟩
      · exact Or.inl ⟨by omega, b⟩
      · exact Or.inr ⟨by omega, b, fun q => d ⟨by omega, q.2⟩⟩
theorem xs2_get : ∀ (lv : xL) (i : Nat) (v : Value) (j : Nat) (w : Value), i < lv.length → xg (xs2 lv i v) j = some w → (j = i ∧ w = v) ∨ (j ≠ i ∧ j ≠ i + 1 ∧ xg lv j = some w ∧ ¬ (j + 1 = i ∧ w.category = 2)) := by
  intro lv
  induction lv with
  | nil => intro i v j w hi; simp at hi
  | cons x r ih =>
    intro i v j w hi h
    match i, j with
    | 0, 0 => simp [xs2, xg] at h; exact Or.inl ⟨rfl, h.symm⟩
    | 0, 1 => cases r <;> simp [xs2, xg, xsk] at h
    | 0, j + 2 =>
      cases r with
      | nil => simp [xs2, xg, xsk] at h
      | cons y r => simp [xs2, xg, xsk] at h; exact Or.inr ⟨by omega, by omega, h, by omega⟩
    | 1, 0 =>
      simp only [xs2, xg] at h
      have := xk_some h
      exact Or.inr ⟨by omega, by omega, this.1, fun q => this.2 q.2⟩
    | 1, j + 1 =>
      simp only [xs2, xg] at h
      rcases ih 0 v j w (by simpa using hi) h with ⟨a, b⟩ | ⟨a, a2, b, d⟩
      · exact Or.inl ⟨by omega, b⟩
      · exact Or.inr ⟨by omega, by omega, b, by omega⟩
    | n + 2, 0 => simp only [xs2, xg] at h; exact Or.inr ⟨by omega, by omega, h, by omega⟩
    | n + 2, j + 1 =>
      simp only [xs2, xg] at h
      rcases ih (n + 1) v j w (by simp at hi; omega) h with ⟨a, b⟩ | ⟨a, a2, b, d⟩
      · exact Or.inl ⟨by omega, b⟩
      · exact Or.inr ⟨by omega, by omega, b, fun q => d ⟨by omega, q.2⟩⟩
theorem xlv.st1 {ls : Array Slot} {lv : xL} {i : Nat} {v : Value} (hi : i < lv.length) (h : lv_has ls lv.length ((i, v) :: (xll 0 lv).filter (fun q => !(q.1 == i) && !(q.1 + 1 == i && q.2.category == 2)))) : xlv ls (xs1 lv i v) := by
  refine xlv.of h (xs1_len lv i v).symm fun j w hw => ?_
  rcases xs1_get lv i v j w hi hw with ⟨a, b⟩ | ⟨a, b, d⟩
  · rw [a, b]; exact List.mem_cons_self
  · refine List.mem_cons_of_mem _ (List.mem_filter.mpr ⟨(xll_mem lv 0 (j, w)).mpr ⟨by omega, by simpa using b⟩, ?_⟩)
    simp [a]
    exact Classical.not_and_iff_not_or_not.mp d
theorem xlv.st2 {ls : Array Slot} {lv : xL} {i : Nat} {v : Value} (hi : i < lv.length) (h : lv_has ls lv.length ((i, v) :: (xll 0 lv).filter (fun q => !(q.1 == i) && (!(q.1 == i + 1) && !(q.1 + 1 == i && q.2.category == 2))))) : xlv ls (xs2 lv i v) := by
  refine xlv.of h (xs2_len lv i v).symm fun j w hw => ?_
  rcases xs2_get lv i v j w hi hw with ⟨a, b⟩ | ⟨a, a2, b, d⟩
  · rw [a, b]; exact List.mem_cons_self
  · refine List.mem_cons_of_mem _ (List.mem_filter.mpr ⟨(xll_mem lv 0 (j, w)).mpr ⟨by omega, by simpa using b⟩, ?_⟩)
    simp [a, a2]
    exact Classical.not_and_iff_not_or_not.mp d
theorem xll_lv {lv : xL} {i : Nat} {v : Value} (h : xg lv i = some v) : ∃ k : Nat, (xll 0 lv)[k]? = some (i, v) := List.getElem?_of_mem ((xll_mem lv 0 (i, v)).mpr ⟨by omega, by simpa using h⟩)
theorem xg_lt : ∀ {lv : xL} {i : Nat} {v : Value}, xg lv i = some v → i < lv.length := by
  intro lv
  induction lv with
  | nil => intro i v h; simp [xg] at h
  | cons x r ih =>
    intro i v h
    cases i with
    | zero => simp
    | succ n => simp [xg] at h; have := ih h; simp; omega
/-- what a walk keeps -/
def xC (p : Program) (l : Launch) (s0 s : State) (D : va_G) (m : MethodId) (args : Array Value) (meth : Method) (c : Code) (own : String) (cc : ByteArray) : Prop :=
  p.tables.exec = Jvm.exec ∧ c.code = cc ∧ s.vm.findClass own = some m.cls ∧ (∀ w ∈ lw_all, w.before args s = true) ∧ meth.locks = false ∧ s0.WarmedH s.vm ∧ x0 l s0 D ∧ s0.heap.size ≤ s.heap.size
/-- the walk's judgement: any heap that holds the named cells -/
def XW (p : Program) (l : Launch) (e : Env) (R : Room) (s : State) (m : MethodId) (args : Array Value) (below : List Frame) (meth : Method) (c : Code) (s0 : State) (D : va_G) (Q : State → Prop) (cells slots : Nat) (g : xG) (pc : Nat) (lv : xL) (st : List Value) : Prop :=
  ∀ (H : Heap) (locs : List Loc) (ls : Array Slot), c.maxLocals = lv.length → xI s0 D g H → va_S (fun q => s0.heap.size ≤ q) s.heap H locs → xlv ls lv → W p l e R s m args below meth c H locs cells slots Q (F0 m pc ls st)
section XR
variable {p : Program} {l : Launch} {e : Env} {R : Room} {s : State} {m : MethodId} {args : Array Value} {below : List Frame} {meth : Method} {c : Code} {s0 : State} {D : va_G} {Q : State → Prop} {cells slots : Nat} {g : xG} {own : String} {cc : ByteArray} {pc q : Nat} {lv : xL} {st : List Value}

theorem x_iconst (hC : xC p l s0 s D m args meth c own cc) {n : Int} {v : Int32} (d : decode cc pc = .ok (.iconst n, 1)) (hq : pc + 1 = q) (hv : Int32.ofInt n = v) (k : XW p l e R s m args below meth c s0 D Q cells slots g q lv (.int v :: st)) : XW p l e R s m args below meth c s0 D Q cells slots g pc lv st := by
  subst hq; intro H locs ls hm hI hS hl; exact lv_iconst hC.1 hC.2.1 d hv (k H locs ls hm hI hS hl)
theorem x_bipush (hC : xC p l s0 s D m args meth c own cc) {n : Int} {v : Int32} (d : decode cc pc = .ok (.bipush n, 2)) (hq : pc + 2 = q) (hv : (Int8.ofInt n).toInt32 = v) (k : XW p l e R s m args below meth c s0 D Q cells slots g q lv (.int v :: st)) : XW p l e R s m args below meth c s0 D Q cells slots g pc lv st := by
  subst hq; intro H locs ls hm hI hS hl; exact lv_bipush hC.1 hC.2.1 d hv (k H locs ls hm hI hS hl)
theorem x_sipush (hC : xC p l s0 s D m args meth c own cc) {n : Int} {v : Int32} (d : decode cc pc = .ok (.sipush n, 3)) (hq : pc + 3 = q) (hv : (Int16.ofInt n).toInt32 = v) (k : XW p l e R s m args below meth c s0 D Q cells slots g q lv (.int v :: st)) : XW p l e R s m args below meth c s0 D Q cells slots g pc lv st := by
  subst hq; intro H locs ls hm hI hS hl; exact lv_sipush hC.1 hC.2.1 d hv (k H locs ls hm hI hS hl)
theorem x_lconst (hC : xC p l s0 s D m args meth c own cc) {n : Fin 2} {v : Int64} (d : decode cc pc = .ok (.lconst n, 1)) (hq : pc + 1 = q) (hv : Int64.ofNat (n : Nat) = v) (k : XW p l e R s m args below meth c s0 D Q cells slots g q lv (.long v :: st)) : XW p l e R s m args below meth c s0 D Q cells slots g pc lv st := by
  subst hq; intro H locs ls hm hI hS hl; exact lv_lconst hC.1 hC.2.1 d hv (k H locs ls hm hI hS hl)
theorem x_null (hC : xC p l s0 s D m args meth c own cc)  (d : decode cc pc = .ok (.aconst_null, 1)) (hq : pc + 1 = q)  (k : XW p l e R s m args below meth c s0 D Q cells slots g q lv (.null :: st)) : XW p l e R s m args below meth c s0 D Q cells slots g pc lv st := by
  subst hq; intro H locs ls hm hI hS hl; exact lv_null hC.1 hC.2.1 d (k H locs ls hm hI hS hl)
theorem x_ldc (hC : xC p l s0 s D m args meth c own cc) {i : Nat} {v : Int32} (d : decode cc pc = .ok (.ldc i, 2)) (hq : pc + 2 = q) (hv : Jvm.Cond.constant own i v ∈ lw_all) (k : XW p l e R s m args below meth c s0 D Q cells slots g q lv (.int v :: st)) : XW p l e R s m args below meth c s0 D Q cells slots g pc lv st := by
  subst hq; intro H locs ls hm hI hS hl; exact lv_ldc hC.1 hC.2.1 hC.2.2.1 (hC.2.2.2.1 _ hv) d (k H locs ls hm hI hS hl)
theorem x_ldc_w (hC : xC p l s0 s D m args meth c own cc) {i : Nat} {v : Int32} (d : decode cc pc = .ok (.ldc_w i, 3)) (hq : pc + 3 = q) (hv : Jvm.Cond.constant own i v ∈ lw_all) (k : XW p l e R s m args below meth c s0 D Q cells slots g q lv (.int v :: st)) : XW p l e R s m args below meth c s0 D Q cells slots g pc lv st := by
  subst hq; intro H locs ls hm hI hS hl; exact lv_ldcw hC.1 hC.2.1 hC.2.2.1 (hC.2.2.2.1 _ hv) d (k H locs ls hm hI hS hl)
theorem x_ldc2_w (hC : xC p l s0 s D m args meth c own cc) {i : Nat} {v : Int64} (d : decode cc pc = .ok (.ldc2_w i, 3)) (hq : pc + 3 = q) (hv : Jvm.Cond.constantLong own i v ∈ lw_all) (k : XW p l e R s m args below meth c s0 D Q cells slots g q lv (.long v :: st)) : XW p l e R s m args below meth c s0 D Q cells slots g pc lv st := by
  subst hq; intro H locs ls hm hI hS hl; exact lv_ldc2 hC.1 hC.2.1 hC.2.2.1 (hC.2.2.2.1 _ hv) d (k H locs ls hm hI hS hl)
theorem x_iload_n (hC : xC p l s0 s D m args meth c own cc) {k0 : Fin 4} {x : Int32} (d : decode cc pc = .ok (.iload_n k0, 1)) (hq : pc + 1 = q) (hx : xg lv (k0 : Nat) = some (.int x)) (k : XW p l e R s m args below meth c s0 D Q cells slots g q lv (.int x :: st)) : XW p l e R s m args below meth c s0 D Q cells slots g pc lv st := by
  subst hq; intro H locs ls hm hI hS hl; exact lv_iload_n hC.1 hC.2.1 d rfl (hl.2.2 _ _ hx) (k H locs ls hm hI hS hl)
theorem x_iload (hC : xC p l s0 s D m args meth c own cc) {i : Nat} {x : Int32} (d : decode cc pc = .ok (.iload i, 2)) (hq : pc + 2 = q) (hx : xg lv i = some (.int x)) (k : XW p l e R s m args below meth c s0 D Q cells slots g q lv (.int x :: st)) : XW p l e R s m args below meth c s0 D Q cells slots g pc lv st := by
  subst hq; intro H locs ls hm hI hS hl; exact lv_iload hC.1 hC.2.1 d (hl.2.2 _ _ hx) (k H locs ls hm hI hS hl)
theorem x_lload_n (hC : xC p l s0 s D m args meth c own cc) {k0 : Fin 4} {x : Int64} (d : decode cc pc = .ok (.lload_n k0, 1)) (hq : pc + 1 = q) (hx : xg lv (k0 : Nat) = some (.long x)) (k : XW p l e R s m args below meth c s0 D Q cells slots g q lv (.long x :: st)) : XW p l e R s m args below meth c s0 D Q cells slots g pc lv st := by
  subst hq; intro H locs ls hm hI hS hl; exact lv_lload_n hC.1 hC.2.1 d rfl (hl.2.2 _ _ hx) (k H locs ls hm hI hS hl)
theorem x_lload (hC : xC p l s0 s D m args meth c own cc) {i : Nat} {x : Int64} (d : decode cc pc = .ok (.lload i, 2)) (hq : pc + 2 = q) (hx : xg lv i = some (.long x)) (k : XW p l e R s m args below meth c s0 D Q cells slots g q lv (.long x :: st)) : XW p l e R s m args below meth c s0 D Q cells slots g pc lv st := by
  subst hq; intro H locs ls hm hI hS hl; exact lv_lload hC.1 hC.2.1 d (hl.2.2 _ _ hx) (k H locs ls hm hI hS hl)
theorem x_aload_n (hC : xC p l s0 s D m args meth c own cc) {k0 : Fin 4} {v : Value} (d : decode cc pc = .ok (.aload_n k0, 1)) (hq : pc + 1 = q) (hx : xg lv (k0 : Nat) = some v) (hv : v = .null ∨ ∃ a, v = .ref a) (k : XW p l e R s m args below meth c s0 D Q cells slots g q lv (v :: st)) : XW p l e R s m args below meth c s0 D Q cells slots g pc lv st := by
  subst hq; intro H locs ls hm hI hS hl; exact (hv.elim (fun e => by subst e; exact lv_aload_nN hC.1 hC.2.1 d rfl (hl.2.2 _ _ hx) (k H locs ls hm hI hS hl)) (fun ⟨a, e⟩ => by subst e; exact lv_aload_n hC.1 hC.2.1 d rfl (hl.2.2 _ _ hx) (k H locs ls hm hI hS hl)))
theorem x_aload (hC : xC p l s0 s D m args meth c own cc) {i : Nat} {v : Value} (d : decode cc pc = .ok (.aload i, 2)) (hq : pc + 2 = q) (hx : xg lv i = some v) (hv : v = .null ∨ ∃ a, v = .ref a) (k : XW p l e R s m args below meth c s0 D Q cells slots g q lv (v :: st)) : XW p l e R s m args below meth c s0 D Q cells slots g pc lv st := by
  subst hq; intro H locs ls hm hI hS hl; exact (hv.elim (fun e => by subst e; exact lv_aloadN hC.1 hC.2.1 d (hl.2.2 _ _ hx) (k H locs ls hm hI hS hl)) (fun ⟨a, e⟩ => by subst e; exact lv_aload hC.1 hC.2.1 d (hl.2.2 _ _ hx) (k H locs ls hm hI hS hl)))
theorem x_aloadr_n (hC : xC p l s0 s D m args meth c own cc) {k0 : Fin 4} {a : Nat} (d : decode cc pc = .ok (.aload_n k0, 1)) (hq : pc + 1 = q) (hx : xg lv (k0 : Nat) = some (.ref a)) (k : XW p l e R s m args below meth c s0 D Q cells slots g q lv (.ref a :: st)) : XW p l e R s m args below meth c s0 D Q cells slots g pc lv st := x_aload_n hC d hq hx (Or.inr ⟨a, rfl⟩) k
theorem x_aloadr (hC : xC p l s0 s D m args meth c own cc) {i a : Nat} (d : decode cc pc = .ok (.aload i, 2)) (hq : pc + 2 = q) (hx : xg lv i = some (.ref a)) (k : XW p l e R s m args below meth c s0 D Q cells slots g q lv (.ref a :: st)) : XW p l e R s m args below meth c s0 D Q cells slots g pc lv st := x_aload hC d hq hx (Or.inr ⟨a, rfl⟩) k
theorem x_istore_n (hC : xC p l s0 s D m args meth c own cc) {k0 : Fin 4} {x : Int32} (d : decode cc pc = .ok (.istore_n k0, 1)) (hq : pc + 1 = q) (hi : Nat.blt (k0 : Nat) lv.length = true) (k : XW p l e R s m args below meth c s0 D Q cells slots g q (xs1 lv (k0 : Nat) (.int x)) st) : XW p l e R s m args below meth c s0 D Q cells slots g pc lv (.int x :: st) := by
  subst hq; intro H locs ls hm hI hS hl
  have hi : (k0 : Nat) < lv.length := Nat.le_of_ble_eq_true hi
  exact lv_istore_n hC.1 hC.2.1 d rfl hl.has hi rfl (fun ls' h' => k H locs ls' (by rw [hm]; exact (xs1_len _ _ _).symm) hI hS (xlv.st1 (by omega) h'))
theorem x_istore (hC : xC p l s0 s D m args meth c own cc) {i : Nat} {x : Int32} (d : decode cc pc = .ok (.istore i, 2)) (hq : pc + 2 = q) (hi : Nat.blt i lv.length = true) (k : XW p l e R s m args below meth c s0 D Q cells slots g q (xs1 lv i (.int x)) st) : XW p l e R s m args below meth c s0 D Q cells slots g pc lv (.int x :: st) := by
  subst hq; intro H locs ls hm hI hS hl
  have hi : i < lv.length := Nat.le_of_ble_eq_true hi
  exact lv_istore hC.1 hC.2.1 d hl.has hi rfl (fun ls' h' => k H locs ls' (by rw [hm]; exact (xs1_len _ _ _).symm) hI hS (xlv.st1 (by omega) h'))
theorem x_lstore_n (hC : xC p l s0 s D m args meth c own cc) {k0 : Fin 4} {x : Int64} (d : decode cc pc = .ok (.lstore_n k0, 1)) (hq : pc + 1 = q) (hi : Nat.blt ((k0 : Nat) + 1) lv.length = true) (k : XW p l e R s m args below meth c s0 D Q cells slots g q (xs2 lv (k0 : Nat) (.long x)) st) : XW p l e R s m args below meth c s0 D Q cells slots g pc lv (.long x :: st) := by
  subst hq; intro H locs ls hm hI hS hl
  have hi : ((k0 : Nat) + 1) < lv.length := Nat.le_of_ble_eq_true hi
  exact lv_lstore_n hC.1 hC.2.1 d rfl hl.has hi rfl (fun ls' h' => k H locs ls' (by rw [hm]; exact (xs2_len _ _ _).symm) hI hS (xlv.st2 (by omega) h'))
theorem x_lstore (hC : xC p l s0 s D m args meth c own cc) {i : Nat} {x : Int64} (d : decode cc pc = .ok (.lstore i, 2)) (hq : pc + 2 = q) (hi : Nat.blt (i + 1) lv.length = true) (k : XW p l e R s m args below meth c s0 D Q cells slots g q (xs2 lv i (.long x)) st) : XW p l e R s m args below meth c s0 D Q cells slots g pc lv (.long x :: st) := by
  subst hq; intro H locs ls hm hI hS hl
  have hi : (i + 1) < lv.length := Nat.le_of_ble_eq_true hi
  exact lv_lstore hC.1 hC.2.1 d hl.has hi rfl (fun ls' h' => k H locs ls' (by rw [hm]; exact (xs2_len _ _ _).symm) hI hS (xlv.st2 (by omega) h'))
theorem x_astorer_n (hC : xC p l s0 s D m args meth c own cc) {k0 : Fin 4} {x : Nat} (d : decode cc pc = .ok (.astore_n k0, 1)) (hq : pc + 1 = q) (hi : Nat.blt (k0 : Nat) lv.length = true) (k : XW p l e R s m args below meth c s0 D Q cells slots g q (xs1 lv (k0 : Nat) (.ref x)) st) : XW p l e R s m args below meth c s0 D Q cells slots g pc lv (.ref x :: st) := by
  subst hq; intro H locs ls hm hI hS hl
  have hi : (k0 : Nat) < lv.length := Nat.le_of_ble_eq_true hi
  exact lv_astore_n hC.1 hC.2.1 d rfl hl.has hi rfl (fun ls' h' => k H locs ls' (by rw [hm]; exact (xs1_len _ _ _).symm) hI hS (xlv.st1 (by omega) h'))
theorem x_astorer (hC : xC p l s0 s D m args meth c own cc) {i : Nat} {x : Nat} (d : decode cc pc = .ok (.astore i, 2)) (hq : pc + 2 = q) (hi : Nat.blt i lv.length = true) (k : XW p l e R s m args below meth c s0 D Q cells slots g q (xs1 lv i (.ref x)) st) : XW p l e R s m args below meth c s0 D Q cells slots g pc lv (.ref x :: st) := by
  subst hq; intro H locs ls hm hI hS hl
  have hi : i < lv.length := Nat.le_of_ble_eq_true hi
  exact lv_astore hC.1 hC.2.1 d hl.has hi rfl (fun ls' h' => k H locs ls' (by rw [hm]; exact (xs1_len _ _ _).symm) hI hS (xlv.st1 (by omega) h'))
theorem x_astoren_n (hC : xC p l s0 s D m args meth c own cc) {k0 : Fin 4} (d : decode cc pc = .ok (.astore_n k0, 1)) (hq : pc + 1 = q) (hi : Nat.blt (k0 : Nat) lv.length = true) (k : XW p l e R s m args below meth c s0 D Q cells slots g q (xs1 lv (k0 : Nat) (.null)) st) : XW p l e R s m args below meth c s0 D Q cells slots g pc lv (.null :: st) := by
  subst hq; intro H locs ls hm hI hS hl
  have hi : (k0 : Nat) < lv.length := Nat.le_of_ble_eq_true hi
  exact lv_astore_nN hC.1 hC.2.1 d rfl hl.has hi rfl (fun ls' h' => k H locs ls' (by rw [hm]; exact (xs1_len _ _ _).symm) hI hS (xlv.st1 (by omega) h'))
theorem x_astoren (hC : xC p l s0 s D m args meth c own cc) {i : Nat} (d : decode cc pc = .ok (.astore i, 2)) (hq : pc + 2 = q) (hi : Nat.blt i lv.length = true) (k : XW p l e R s m args below meth c s0 D Q cells slots g q (xs1 lv i (.null)) st) : XW p l e R s m args below meth c s0 D Q cells slots g pc lv (.null :: st) := by
  subst hq; intro H locs ls hm hI hS hl
  have hi : i < lv.length := Nat.le_of_ble_eq_true hi
  exact lv_astoreN hC.1 hC.2.1 d hl.has hi rfl (fun ls' h' => k H locs ls' (by rw [hm]; exact (xs1_len _ _ _).symm) hI hS (xlv.st1 (by omega) h'))
theorem x_astore_n (hC : xC p l s0 s D m args meth c own cc) {k0 : Fin 4} {v : Value} (d : decode cc pc = .ok (.astore_n k0, 1)) (hq : pc + 1 = q) (hi : Nat.blt (k0 : Nat) lv.length = true) (hv : v = .null ∨ ∃ a, v = .ref a) (k : XW p l e R s m args below meth c s0 D Q cells slots g q (xs1 lv (k0 : Nat) v) st) : XW p l e R s m args below meth c s0 D Q cells slots g pc lv (v :: st) := by
  rcases hv with rfl | ⟨a, rfl⟩
  · exact x_astoren_n hC d hq hi k
  · exact x_astorer_n hC d hq hi k
theorem x_astore (hC : xC p l s0 s D m args meth c own cc) {i : Nat} {v : Value} (d : decode cc pc = .ok (.astore i, 2)) (hq : pc + 2 = q) (hi : Nat.blt i lv.length = true) (hv : v = .null ∨ ∃ a, v = .ref a) (k : XW p l e R s m args below meth c s0 D Q cells slots g q (xs1 lv i v) st) : XW p l e R s m args below meth c s0 D Q cells slots g pc lv (v :: st) := by
  rcases hv with rfl | ⟨a, rfl⟩
  · exact x_astoren hC d hq hi k
  · exact x_astorer hC d hq hi k
theorem x_iinc (hC : xC p l s0 s D m args meth c own cc) {i : Nat} {n : Int} {x v : Int32} (d : decode cc pc = .ok (.iinc i n, 3)) (hq : pc + 3 = q) (hx : xg lv i = some (.int x)) (hv : x + Int32.ofInt n = v) (k : XW p l e R s m args below meth c s0 D Q cells slots g q (xs1 lv i (.int v)) st) : XW p l e R s m args below meth c s0 D Q cells slots g pc lv st := by
  subst hq; intro H locs ls hm hI hS hl
  obtain ⟨k1, hk1⟩ := xll_lv hx
  exact lv_iinc hC.1 hC.2.1 d hl.has hk1 hv (xg_lt hx) rfl (fun ls' h' => k H locs ls' (by rw [hm]; exact (xs1_len _ _ _).symm) hI hS (xlv.st1 (xg_lt hx) h'))
theorem x_iadd (hC : xC p l s0 s D m args meth c own cc) {x y : Int32} (d : decode cc pc = .ok (.iadd, 1)) (hq : pc + 1 = q)  (k : XW p l e R s m args below meth c s0 D Q cells slots g q lv (.int (x + y) :: st)) : XW p l e R s m args below meth c s0 D Q cells slots g pc lv (.int y :: .int x :: st) := by
  subst hq; intro H locs ls hm hI hS hl; exact lv_iadd hC.1 hC.2.1 d (k H locs ls hm hI hS hl)
theorem x_isub (hC : xC p l s0 s D m args meth c own cc) {x y : Int32} (d : decode cc pc = .ok (.isub, 1)) (hq : pc + 1 = q)  (k : XW p l e R s m args below meth c s0 D Q cells slots g q lv (.int (x - y) :: st)) : XW p l e R s m args below meth c s0 D Q cells slots g pc lv (.int y :: .int x :: st) := by
  subst hq; intro H locs ls hm hI hS hl; exact lv_isub hC.1 hC.2.1 d (k H locs ls hm hI hS hl)
theorem x_imul (hC : xC p l s0 s D m args meth c own cc) {x y : Int32} (d : decode cc pc = .ok (.imul, 1)) (hq : pc + 1 = q)  (k : XW p l e R s m args below meth c s0 D Q cells slots g q lv (.int (x * y) :: st)) : XW p l e R s m args below meth c s0 D Q cells slots g pc lv (.int y :: .int x :: st) := by
  subst hq; intro H locs ls hm hI hS hl; exact lv_imul hC.1 hC.2.1 d (k H locs ls hm hI hS hl)
theorem x_iand (hC : xC p l s0 s D m args meth c own cc) {x y : Int32} (d : decode cc pc = .ok (.iand, 1)) (hq : pc + 1 = q)  (k : XW p l e R s m args below meth c s0 D Q cells slots g q lv (.int (x &&& y) :: st)) : XW p l e R s m args below meth c s0 D Q cells slots g pc lv (.int y :: .int x :: st) := by
  subst hq; intro H locs ls hm hI hS hl; exact lv_iand hC.1 hC.2.1 d (k H locs ls hm hI hS hl)
theorem x_ior (hC : xC p l s0 s D m args meth c own cc) {x y : Int32} (d : decode cc pc = .ok (.ior, 1)) (hq : pc + 1 = q)  (k : XW p l e R s m args below meth c s0 D Q cells slots g q lv (.int (x ||| y) :: st)) : XW p l e R s m args below meth c s0 D Q cells slots g pc lv (.int y :: .int x :: st) := by
  subst hq; intro H locs ls hm hI hS hl; exact lv_ior hC.1 hC.2.1 d (k H locs ls hm hI hS hl)
theorem x_ixor (hC : xC p l s0 s D m args meth c own cc) {x y : Int32} (d : decode cc pc = .ok (.ixor, 1)) (hq : pc + 1 = q)  (k : XW p l e R s m args below meth c s0 D Q cells slots g q lv (.int (x ^^^ y) :: st)) : XW p l e R s m args below meth c s0 D Q cells slots g pc lv (.int y :: .int x :: st) := by
  subst hq; intro H locs ls hm hI hS hl; exact lv_ixor hC.1 hC.2.1 d (k H locs ls hm hI hS hl)
theorem x_ishl (hC : xC p l s0 s D m args meth c own cc) {x y : Int32} (d : decode cc pc = .ok (.ishl, 1)) (hq : pc + 1 = q)  (k : XW p l e R s m args below meth c s0 D Q cells slots g q lv (.int (x <<< (y &&& 31)) :: st)) : XW p l e R s m args below meth c s0 D Q cells slots g pc lv (.int y :: .int x :: st) := by
  subst hq; intro H locs ls hm hI hS hl; exact lv_ishl hC.1 hC.2.1 d (k H locs ls hm hI hS hl)
theorem x_ishr (hC : xC p l s0 s D m args meth c own cc) {x y : Int32} (d : decode cc pc = .ok (.ishr, 1)) (hq : pc + 1 = q)  (k : XW p l e R s m args below meth c s0 D Q cells slots g q lv (.int (x >>> (y &&& 31)) :: st)) : XW p l e R s m args below meth c s0 D Q cells slots g pc lv (.int y :: .int x :: st) := by
  subst hq; intro H locs ls hm hI hS hl; exact lv_ishr hC.1 hC.2.1 d (k H locs ls hm hI hS hl)
theorem x_idiv (hC : xC p l s0 s D m args meth c own cc) {x y : Int32} (d : decode cc pc = .ok (.idiv, 1)) (hq : pc + 1 = q) (hne : ¬ y = 0) (k : XW p l e R s m args below meth c s0 D Q cells slots g q lv (.int (x / y) :: st)) : XW p l e R s m args below meth c s0 D Q cells slots g pc lv (.int y :: .int x :: st) := by
  subst hq; intro H locs ls hm hI hS hl; exact lv_idiv hC.1 hC.2.1 d hne (k H locs ls hm hI hS hl)
theorem x_irem (hC : xC p l s0 s D m args meth c own cc) {x y : Int32} (d : decode cc pc = .ok (.irem, 1)) (hq : pc + 1 = q) (hne : ¬ y = 0) (k : XW p l e R s m args below meth c s0 D Q cells slots g q lv (.int (x - x / y * y) :: st)) : XW p l e R s m args below meth c s0 D Q cells slots g pc lv (.int y :: .int x :: st) := by
  subst hq; intro H locs ls hm hI hS hl; exact lv_irem hC.1 hC.2.1 d hne (k H locs ls hm hI hS hl)
theorem x_ineg (hC : xC p l s0 s D m args meth c own cc) {x : Int32} (d : decode cc pc = .ok (.ineg, 1)) (hq : pc + 1 = q)  (k : XW p l e R s m args below meth c s0 D Q cells slots g q lv (.int (-x) :: st)) : XW p l e R s m args below meth c s0 D Q cells slots g pc lv (.int x :: st) := by
  subst hq; intro H locs ls hm hI hS hl; exact lv_ineg hC.1 hC.2.1 d (k H locs ls hm hI hS hl)
theorem x_iushr (hC : xC p l s0 s D m args meth c own cc) {x y : Int32} (d : decode cc pc = .ok (.iushr, 1)) (hq : pc + 1 = q)  (k : XW p l e R s m args below meth c s0 D Q cells slots g q lv (.int ((x.toUInt32 >>> (y.toUInt32 &&& Int32.toUInt32 31)).toInt32) :: st)) : XW p l e R s m args below meth c s0 D Q cells slots g pc lv (.int y :: .int x :: st) := by
  subst hq; intro H locs ls hm hI hS hl; exact lv_iushr hC.1 hC.2.1 d rfl (k H locs ls hm hI hS hl)
theorem x_ladd (hC : xC p l s0 s D m args meth c own cc) {x y : Int64} (d : decode cc pc = .ok (.ladd, 1)) (hq : pc + 1 = q)  (k : XW p l e R s m args below meth c s0 D Q cells slots g q lv (.long (x + y) :: st)) : XW p l e R s m args below meth c s0 D Q cells slots g pc lv (.long y :: .long x :: st) := by
  subst hq; intro H locs ls hm hI hS hl; exact lv_ladd hC.1 hC.2.1 d (k H locs ls hm hI hS hl)
theorem x_lsub (hC : xC p l s0 s D m args meth c own cc) {x y : Int64} (d : decode cc pc = .ok (.lsub, 1)) (hq : pc + 1 = q)  (k : XW p l e R s m args below meth c s0 D Q cells slots g q lv (.long (x - y) :: st)) : XW p l e R s m args below meth c s0 D Q cells slots g pc lv (.long y :: .long x :: st) := by
  subst hq; intro H locs ls hm hI hS hl; exact lv_lsub hC.1 hC.2.1 d (k H locs ls hm hI hS hl)
theorem x_lmul (hC : xC p l s0 s D m args meth c own cc) {x y : Int64} (d : decode cc pc = .ok (.lmul, 1)) (hq : pc + 1 = q)  (k : XW p l e R s m args below meth c s0 D Q cells slots g q lv (.long (x * y) :: st)) : XW p l e R s m args below meth c s0 D Q cells slots g pc lv (.long y :: .long x :: st) := by
  subst hq; intro H locs ls hm hI hS hl; exact lv_lmul hC.1 hC.2.1 d (k H locs ls hm hI hS hl)
theorem x_land (hC : xC p l s0 s D m args meth c own cc) {x y : Int64} (d : decode cc pc = .ok (.land, 1)) (hq : pc + 1 = q)  (k : XW p l e R s m args below meth c s0 D Q cells slots g q lv (.long (x &&& y) :: st)) : XW p l e R s m args below meth c s0 D Q cells slots g pc lv (.long y :: .long x :: st) := by
  subst hq; intro H locs ls hm hI hS hl; exact lv_land hC.1 hC.2.1 d (k H locs ls hm hI hS hl)
theorem x_lor (hC : xC p l s0 s D m args meth c own cc) {x y : Int64} (d : decode cc pc = .ok (.lor, 1)) (hq : pc + 1 = q)  (k : XW p l e R s m args below meth c s0 D Q cells slots g q lv (.long (x ||| y) :: st)) : XW p l e R s m args below meth c s0 D Q cells slots g pc lv (.long y :: .long x :: st) := by
  subst hq; intro H locs ls hm hI hS hl; exact lv_lor hC.1 hC.2.1 d (k H locs ls hm hI hS hl)
theorem x_lxor (hC : xC p l s0 s D m args meth c own cc) {x y : Int64} (d : decode cc pc = .ok (.lxor, 1)) (hq : pc + 1 = q)  (k : XW p l e R s m args below meth c s0 D Q cells slots g q lv (.long (x ^^^ y) :: st)) : XW p l e R s m args below meth c s0 D Q cells slots g pc lv (.long y :: .long x :: st) := by
  subst hq; intro H locs ls hm hI hS hl; exact lv_lxor hC.1 hC.2.1 d (k H locs ls hm hI hS hl)
theorem x_ldiv (hC : xC p l s0 s D m args meth c own cc) {x y : Int64} (d : decode cc pc = .ok (.ldiv, 1)) (hq : pc + 1 = q) (hne : ¬ y = 0) (k : XW p l e R s m args below meth c s0 D Q cells slots g q lv (.long (x / y) :: st)) : XW p l e R s m args below meth c s0 D Q cells slots g pc lv (.long y :: .long x :: st) := by
  subst hq; intro H locs ls hm hI hS hl; exact lv_ldiv hC.1 hC.2.1 d hne (k H locs ls hm hI hS hl)
theorem x_lrem (hC : xC p l s0 s D m args meth c own cc) {x y : Int64} (d : decode cc pc = .ok (.lrem, 1)) (hq : pc + 1 = q) (hne : ¬ y = 0) (k : XW p l e R s m args below meth c s0 D Q cells slots g q lv (.long (x - x / y * y) :: st)) : XW p l e R s m args below meth c s0 D Q cells slots g pc lv (.long y :: .long x :: st) := by
  subst hq; intro H locs ls hm hI hS hl; exact lv_lrem hC.1 hC.2.1 d hne (k H locs ls hm hI hS hl)
theorem x_lushr (hC : xC p l s0 s D m args meth c own cc) {x : Int64} {y : Int32} (d : decode cc pc = .ok (.lushr, 1)) (hq : pc + 1 = q)  (k : XW p l e R s m args below meth c s0 D Q cells slots g q lv (.long ((x.toUInt64 >>> (y.toInt64.toUInt64 &&& Int64.toUInt64 63)).toInt64) :: st)) : XW p l e R s m args below meth c s0 D Q cells slots g pc lv (.int y :: .long x :: st) := by
  subst hq; intro H locs ls hm hI hS hl; exact lv_lushr hC.1 hC.2.1 d rfl (k H locs ls hm hI hS hl)
theorem x_lcmp (hC : xC p l s0 s D m args meth c own cc) {x y : Int64} (d : decode cc pc = .ok (.lcmp, 1)) (hq : pc + 1 = q)  (k : XW p l e R s m args below meth c s0 D Q cells slots g q lv (.int (lg_cmp x y) :: st)) : XW p l e R s m args below meth c s0 D Q cells slots g pc lv (.long y :: .long x :: st) := by
  subst hq; intro H locs ls hm hI hS hl; exact W.lcmp hC.1 hC.2.1 d (k H locs ls hm hI hS hl)
theorem x_i2l (hC : xC p l s0 s D m args meth c own cc) {x : Int32} (d : decode cc pc = .ok (.i2l, 1)) (hq : pc + 1 = q)  (k : XW p l e R s m args below meth c s0 D Q cells slots g q lv (.long x.toInt64 :: st)) : XW p l e R s m args below meth c s0 D Q cells slots g pc lv (.int x :: st) := by
  subst hq; intro H locs ls hm hI hS hl; exact lv_i2l hC.1 hC.2.1 d rfl (k H locs ls hm hI hS hl)
theorem x_l2i (hC : xC p l s0 s D m args meth c own cc) {x : Int64} (d : decode cc pc = .ok (.l2i, 1)) (hq : pc + 1 = q)  (k : XW p l e R s m args below meth c s0 D Q cells slots g q lv (.int x.toInt32 :: st)) : XW p l e R s m args below meth c s0 D Q cells slots g pc lv (.long x :: st) := by
  subst hq; intro H locs ls hm hI hS hl; exact lv_l2i hC.1 hC.2.1 d rfl (k H locs ls hm hI hS hl)
theorem x_i2b (hC : xC p l s0 s D m args meth c own cc) {x : Int32} (d : decode cc pc = .ok (.i2b, 1)) (hq : pc + 1 = q)  (k : XW p l e R s m args below meth c s0 D Q cells slots g q lv (.int x.toInt8.toInt32 :: st)) : XW p l e R s m args below meth c s0 D Q cells slots g pc lv (.int x :: st) := by
  subst hq; intro H locs ls hm hI hS hl; exact lv_i2b hC.1 hC.2.1 d rfl (k H locs ls hm hI hS hl)
theorem x_i2c (hC : xC p l s0 s D m args meth c own cc) {x : Int32} (d : decode cc pc = .ok (.i2c, 1)) (hq : pc + 1 = q)  (k : XW p l e R s m args below meth c s0 D Q cells slots g q lv (.int (x.toUInt32 % 65536).toInt32 :: st)) : XW p l e R s m args below meth c s0 D Q cells slots g pc lv (.int x :: st) := by
  subst hq; intro H locs ls hm hI hS hl; exact lv_i2c hC.1 hC.2.1 d rfl (k H locs ls hm hI hS hl)
theorem x_dup (hC : xC p l s0 s D m args meth c own cc) {v : Value} (d : decode cc pc = .ok (.dup, 1)) (hq : pc + 1 = q) (hv : v.category = 1) (k : XW p l e R s m args below meth c s0 D Q cells slots g q lv (v :: v :: st)) : XW p l e R s m args below meth c s0 D Q cells slots g pc lv (v :: st) := by
  subst hq; intro H locs ls hm hI hS hl; exact lv_dup hC.1 hC.2.1 d hv (k H locs ls hm hI hS hl)
theorem x_pop (hC : xC p l s0 s D m args meth c own cc) {v : Value} (d : decode cc pc = .ok (.pop, 1)) (hq : pc + 1 = q) (hv : v.category = 1) (k : XW p l e R s m args below meth c s0 D Q cells slots g q lv st) : XW p l e R s m args below meth c s0 D Q cells slots g pc lv (v :: st) := by
  subst hq; intro H locs ls hm hI hS hl; exact lv_pop hC.1 hC.2.1 d hv (k H locs ls hm hI hS hl)
theorem x_dup_x1 (hC : xC p l s0 s D m args meth c own cc) {v u : Value} (d : decode cc pc = .ok (.dup_x1, 1)) (hq : pc + 1 = q) (hv : v.category = 1) (hu : u.category = 1) (k : XW p l e R s m args below meth c s0 D Q cells slots g q lv (v :: u :: v :: st)) : XW p l e R s m args below meth c s0 D Q cells slots g pc lv (v :: u :: st) := by
  subst hq; intro H locs ls hm hI hS hl; exact lv_dup_x1 hC.1 hC.2.1 d hv hu (k H locs ls hm hI hS hl)
theorem x_dup2 (hC : xC p l s0 s D m args meth c own cc) {v u : Value} (d : decode cc pc = .ok (.dup2, 1)) (hq : pc + 1 = q) (hv : v.category = 1) (hu : u.category = 1) (k : XW p l e R s m args below meth c s0 D Q cells slots g q lv (v :: u :: v :: u :: st)) : XW p l e R s m args below meth c s0 D Q cells slots g pc lv (v :: u :: st) := by
  subst hq; intro H locs ls hm hI hS hl; exact lv_dup2_11 hC.1 hC.2.1 d hv hu (k H locs ls hm hI hS hl)
theorem x_if_eq (hC : xC p l s0 s D m args meth c own cc) {x : Int32} {off : Int} {tgt : Nat} (d : decode cc pc = .ok (.ifCond .eq off, 3)) (hq : pc + 3 = q) (ht : (pc : Int) + off = (tgt : Int)) (kt : (x = 0) → XW p l e R s m args below meth c s0 D Q cells slots g tgt lv st) (kf : ¬ (x = 0) → XW p l e R s m args below meth c s0 D Q cells slots g q lv st) : XW p l e R s m args below meth c s0 D Q cells slots g pc lv (.int x :: st) := by
  subst hq; intro H locs ls hm hI hS hl; exact lv_if_eq hC.1 hC.2.1 d ht (fun h => kt h H locs ls hm hI hS hl) (fun h => kf h H locs ls hm hI hS hl)
theorem x_if_ne (hC : xC p l s0 s D m args meth c own cc) {x : Int32} {off : Int} {tgt : Nat} (d : decode cc pc = .ok (.ifCond .ne off, 3)) (hq : pc + 3 = q) (ht : (pc : Int) + off = (tgt : Int)) (kt : (x ≠ 0) → XW p l e R s m args below meth c s0 D Q cells slots g tgt lv st) (kf : (x = 0) → XW p l e R s m args below meth c s0 D Q cells slots g q lv st) : XW p l e R s m args below meth c s0 D Q cells slots g pc lv (.int x :: st) := by
  subst hq; intro H locs ls hm hI hS hl; exact lv_if_ne hC.1 hC.2.1 d ht (fun h => kt h H locs ls hm hI hS hl) (fun h => kf h H locs ls hm hI hS hl)
theorem x_if_lt (hC : xC p l s0 s D m args meth c own cc) {x : Int32} {off : Int} {tgt : Nat} (d : decode cc pc = .ok (.ifCond .lt off, 3)) (hq : pc + 3 = q) (ht : (pc : Int) + off = (tgt : Int)) (kt : (x < 0) → XW p l e R s m args below meth c s0 D Q cells slots g tgt lv st) (kf : ¬ (x < 0) → XW p l e R s m args below meth c s0 D Q cells slots g q lv st) : XW p l e R s m args below meth c s0 D Q cells slots g pc lv (.int x :: st) := by
  subst hq; intro H locs ls hm hI hS hl; exact lv_if_lt hC.1 hC.2.1 d ht (fun h => kt h H locs ls hm hI hS hl) (fun h => kf h H locs ls hm hI hS hl)
theorem x_if_ge (hC : xC p l s0 s D m args meth c own cc) {x : Int32} {off : Int} {tgt : Nat} (d : decode cc pc = .ok (.ifCond .ge off, 3)) (hq : pc + 3 = q) (ht : (pc : Int) + off = (tgt : Int)) (kt : (0 ≤ x) → XW p l e R s m args below meth c s0 D Q cells slots g tgt lv st) (kf : ¬ (0 ≤ x) → XW p l e R s m args below meth c s0 D Q cells slots g q lv st) : XW p l e R s m args below meth c s0 D Q cells slots g pc lv (.int x :: st) := by
  subst hq; intro H locs ls hm hI hS hl; exact lv_if_ge hC.1 hC.2.1 d ht (fun h => kt h H locs ls hm hI hS hl) (fun h => kf h H locs ls hm hI hS hl)
theorem x_if_gt (hC : xC p l s0 s D m args meth c own cc) {x : Int32} {off : Int} {tgt : Nat} (d : decode cc pc = .ok (.ifCond .gt off, 3)) (hq : pc + 3 = q) (ht : (pc : Int) + off = (tgt : Int)) (kt : (0 < x) → XW p l e R s m args below meth c s0 D Q cells slots g tgt lv st) (kf : ¬ (0 < x) → XW p l e R s m args below meth c s0 D Q cells slots g q lv st) : XW p l e R s m args below meth c s0 D Q cells slots g pc lv (.int x :: st) := by
  subst hq; intro H locs ls hm hI hS hl; exact lv_if_gt hC.1 hC.2.1 d ht (fun h => kt h H locs ls hm hI hS hl) (fun h => kf h H locs ls hm hI hS hl)
theorem x_if_le (hC : xC p l s0 s D m args meth c own cc) {x : Int32} {off : Int} {tgt : Nat} (d : decode cc pc = .ok (.ifCond .le off, 3)) (hq : pc + 3 = q) (ht : (pc : Int) + off = (tgt : Int)) (kt : (x ≤ 0) → XW p l e R s m args below meth c s0 D Q cells slots g tgt lv st) (kf : ¬ (x ≤ 0) → XW p l e R s m args below meth c s0 D Q cells slots g q lv st) : XW p l e R s m args below meth c s0 D Q cells slots g pc lv (.int x :: st) := by
  subst hq; intro H locs ls hm hI hS hl; exact lv_if_le hC.1 hC.2.1 d ht (fun h => kt h H locs ls hm hI hS hl) (fun h => kf h H locs ls hm hI hS hl)
theorem x_icmp_eq (hC : xC p l s0 s D m args meth c own cc) {x y : Int32} {off : Int} {tgt : Nat} (d : decode cc pc = .ok (.if_icmp .eq off, 3)) (hq : pc + 3 = q) (ht : (pc : Int) + off = (tgt : Int)) (kt : (x = y) → XW p l e R s m args below meth c s0 D Q cells slots g tgt lv st) (kf : ¬ (x = y) → XW p l e R s m args below meth c s0 D Q cells slots g q lv st) : XW p l e R s m args below meth c s0 D Q cells slots g pc lv (.int y :: .int x :: st) := by
  subst hq; intro H locs ls hm hI hS hl; exact lv_icmp_eq hC.1 hC.2.1 d ht (fun h => kt h H locs ls hm hI hS hl) (fun h => kf h H locs ls hm hI hS hl)
theorem x_icmp_ne (hC : xC p l s0 s D m args meth c own cc) {x y : Int32} {off : Int} {tgt : Nat} (d : decode cc pc = .ok (.if_icmp .ne off, 3)) (hq : pc + 3 = q) (ht : (pc : Int) + off = (tgt : Int)) (kt : (x ≠ y) → XW p l e R s m args below meth c s0 D Q cells slots g tgt lv st) (kf : (x = y) → XW p l e R s m args below meth c s0 D Q cells slots g q lv st) : XW p l e R s m args below meth c s0 D Q cells slots g pc lv (.int y :: .int x :: st) := by
  subst hq; intro H locs ls hm hI hS hl; exact lv_icmp_ne hC.1 hC.2.1 d ht (fun h => kt h H locs ls hm hI hS hl) (fun h => kf h H locs ls hm hI hS hl)
theorem x_icmp_lt (hC : xC p l s0 s D m args meth c own cc) {x y : Int32} {off : Int} {tgt : Nat} (d : decode cc pc = .ok (.if_icmp .lt off, 3)) (hq : pc + 3 = q) (ht : (pc : Int) + off = (tgt : Int)) (kt : (x < y) → XW p l e R s m args below meth c s0 D Q cells slots g tgt lv st) (kf : ¬ (x < y) → XW p l e R s m args below meth c s0 D Q cells slots g q lv st) : XW p l e R s m args below meth c s0 D Q cells slots g pc lv (.int y :: .int x :: st) := by
  subst hq; intro H locs ls hm hI hS hl; exact lv_icmp_lt hC.1 hC.2.1 d ht (fun h => kt h H locs ls hm hI hS hl) (fun h => kf h H locs ls hm hI hS hl)
theorem x_icmp_ge (hC : xC p l s0 s D m args meth c own cc) {x y : Int32} {off : Int} {tgt : Nat} (d : decode cc pc = .ok (.if_icmp .ge off, 3)) (hq : pc + 3 = q) (ht : (pc : Int) + off = (tgt : Int)) (kt : (y ≤ x) → XW p l e R s m args below meth c s0 D Q cells slots g tgt lv st) (kf : ¬ (y ≤ x) → XW p l e R s m args below meth c s0 D Q cells slots g q lv st) : XW p l e R s m args below meth c s0 D Q cells slots g pc lv (.int y :: .int x :: st) := by
  subst hq; intro H locs ls hm hI hS hl; exact lv_icmp_ge hC.1 hC.2.1 d ht (fun h => kt h H locs ls hm hI hS hl) (fun h => kf h H locs ls hm hI hS hl)
theorem x_icmp_gt (hC : xC p l s0 s D m args meth c own cc) {x y : Int32} {off : Int} {tgt : Nat} (d : decode cc pc = .ok (.if_icmp .gt off, 3)) (hq : pc + 3 = q) (ht : (pc : Int) + off = (tgt : Int)) (kt : (y < x) → XW p l e R s m args below meth c s0 D Q cells slots g tgt lv st) (kf : ¬ (y < x) → XW p l e R s m args below meth c s0 D Q cells slots g q lv st) : XW p l e R s m args below meth c s0 D Q cells slots g pc lv (.int y :: .int x :: st) := by
  subst hq; intro H locs ls hm hI hS hl; exact lv_icmp_gt hC.1 hC.2.1 d ht (fun h => kt h H locs ls hm hI hS hl) (fun h => kf h H locs ls hm hI hS hl)
theorem x_icmp_le (hC : xC p l s0 s D m args meth c own cc) {x y : Int32} {off : Int} {tgt : Nat} (d : decode cc pc = .ok (.if_icmp .le off, 3)) (hq : pc + 3 = q) (ht : (pc : Int) + off = (tgt : Int)) (kt : (x ≤ y) → XW p l e R s m args below meth c s0 D Q cells slots g tgt lv st) (kf : ¬ (x ≤ y) → XW p l e R s m args below meth c s0 D Q cells slots g q lv st) : XW p l e R s m args below meth c s0 D Q cells slots g pc lv (.int y :: .int x :: st) := by
  subst hq; intro H locs ls hm hI hS hl; exact lv_icmp_le hC.1 hC.2.1 d ht (fun h => kt h H locs ls hm hI hS hl) (fun h => kf h H locs ls hm hI hS hl)
theorem x_acmp_eq (hC : xC p l s0 s D m args meth c own cc) {rx ry : Option Nat} {off : Int} {tgt : Nat} (d : decode cc pc = .ok (.if_acmp .eq off, 3)) (hq : pc + 3 = q) (ht : (pc : Int) + off = (tgt : Int)) (kt : (rx = ry) → XW p l e R s m args below meth c s0 D Q cells slots g tgt lv st) (kf : ¬ (rx = ry) → XW p l e R s m args below meth c s0 D Q cells slots g q lv st) : XW p l e R s m args below meth c s0 D Q cells slots g pc lv (va_rf ry :: va_rf rx :: st) := by
  subst hq; intro H locs ls hm hI hS hl; exact lv_acmp_eq hC.1 hC.2.1 d ht (fun h => kt h H locs ls hm hI hS hl) (fun h => kf h H locs ls hm hI hS hl)
theorem x_acmp_ne (hC : xC p l s0 s D m args meth c own cc) {rx ry : Option Nat} {off : Int} {tgt : Nat} (d : decode cc pc = .ok (.if_acmp .ne off, 3)) (hq : pc + 3 = q) (ht : (pc : Int) + off = (tgt : Int)) (kt : (rx ≠ ry) → XW p l e R s m args below meth c s0 D Q cells slots g tgt lv st) (kf : (rx = ry) → XW p l e R s m args below meth c s0 D Q cells slots g q lv st) : XW p l e R s m args below meth c s0 D Q cells slots g pc lv (va_rf ry :: va_rf rx :: st) := by
  subst hq; intro H locs ls hm hI hS hl; exact lv_acmp_ne hC.1 hC.2.1 d ht (fun h => kt h H locs ls hm hI hS hl) (fun h => kf h H locs ls hm hI hS hl)
theorem x_goto (hC : xC p l s0 s D m args meth c own cc) {off : Int} {tgt : Nat} (d : decode cc pc = .ok (.goto off, 3)) (ht : (pc : Int) + off = (tgt : Int)) (k : XW p l e R s m args below meth c s0 D Q cells slots g tgt lv st) : XW p l e R s m args below meth c s0 D Q cells slots g pc lv st := by
  intro H locs ls hm hI hS hl; exact lv_goto hC.1 hC.2.1 d ht (k H locs ls hm hI hS hl)
theorem x_ifnull (hC : xC p l s0 s D m args meth c own cc) {r : Option Nat} {off : Int} {tgt : Nat} (d : decode cc pc = .ok (.ifnull off, 3)) (hq : pc + 3 = q) (ht : (pc : Int) + off = (tgt : Int)) (kt : r = none → XW p l e R s m args below meth c s0 D Q cells slots g tgt lv st) (kf : ∀ a : Nat, r = some a → XW p l e R s m args below meth c s0 D Q cells slots g q lv st) : XW p l e R s m args below meth c s0 D Q cells slots g pc lv (va_rf r :: st) := by
  subst hq; intro H locs ls hm hI hS hl
  cases r with
  | none => exact lv_ifnullN hC.1 hC.2.1 d ht (kt rfl H locs ls hm hI hS hl)
  | some a => exact lv_ifnull hC.1 hC.2.1 d (kf a rfl H locs ls hm hI hS hl)
theorem x_ifnonnull (hC : xC p l s0 s D m args meth c own cc) {r : Option Nat} {off : Int} {tgt : Nat} (d : decode cc pc = .ok (.ifnonnull off, 3)) (hq : pc + 3 = q) (ht : (pc : Int) + off = (tgt : Int)) (kt : ∀ a : Nat, r = some a → XW p l e R s m args below meth c s0 D Q cells slots g tgt lv st) (kf : r = none → XW p l e R s m args below meth c s0 D Q cells slots g q lv st) : XW p l e R s m args below meth c s0 D Q cells slots g pc lv (va_rf r :: st) := by
  subst hq; intro H locs ls hm hI hS hl
  cases r with
  | none => exact lv_ifnonnullN hC.1 hC.2.1 d (kf rfl H locs ls hm hI hS hl)
  | some a => exact lv_ifnonnull hC.1 hC.2.1 d ht (kt a rfl H locs ls hm hI hS hl)
theorem x_ifnull_r (hC : xC p l s0 s D m args meth c own cc) {a : Nat} {off : Int} (d : decode cc pc = .ok (.ifnull off, 3)) (hq : pc + 3 = q) (k : XW p l e R s m args below meth c s0 D Q cells slots g q lv st) : XW p l e R s m args below meth c s0 D Q cells slots g pc lv (.ref a :: st) := by
  subst hq; intro H locs ls hm hI hS hl; exact lv_ifnull hC.1 hC.2.1 d (k H locs ls hm hI hS hl)
theorem x_ifnull_n (hC : xC p l s0 s D m args meth c own cc) {off : Int} {tgt : Nat} (d : decode cc pc = .ok (.ifnull off, 3)) (ht : (pc : Int) + off = (tgt : Int)) (k : XW p l e R s m args below meth c s0 D Q cells slots g tgt lv st) : XW p l e R s m args below meth c s0 D Q cells slots g pc lv (.null :: st) := by
  intro H locs ls hm hI hS hl; exact lv_ifnullN hC.1 hC.2.1 d ht (k H locs ls hm hI hS hl)
theorem x_ifnonnull_r (hC : xC p l s0 s D m args meth c own cc) {a : Nat} {off : Int} {tgt : Nat} (d : decode cc pc = .ok (.ifnonnull off, 3)) (ht : (pc : Int) + off = (tgt : Int)) (k : XW p l e R s m args below meth c s0 D Q cells slots g tgt lv st) : XW p l e R s m args below meth c s0 D Q cells slots g pc lv (.ref a :: st) := by
  intro H locs ls hm hI hS hl; exact lv_ifnonnull hC.1 hC.2.1 d ht (k H locs ls hm hI hS hl)
theorem x_ifnonnull_n (hC : xC p l s0 s D m args meth c own cc) {off : Int} (d : decode cc pc = .ok (.ifnonnull off, 3)) (hq : pc + 3 = q) (k : XW p l e R s m args below meth c s0 D Q cells slots g q lv st) : XW p l e R s m args below meth c s0 D Q cells slots g pc lv (.null :: st) := by
  subst hq; intro H locs ls hm hI hS hl; exact lv_ifnonnullN hC.1 hC.2.1 d (k H locs ls hm hI hS hl)
/-- what is known of addresses: two names, two addresses -/
theorem x_inj (k : (∀ (n j : xN) (a : Nat) (x y : xE), n.1 < 1000 → j.1 < 1000 → g n = some (a, x) → g j = some (a, y) → n = j) → XW p l e R s m args below meth c s0 D Q cells slots g pc lv st) : XW p l e R s m args below meth c s0 D Q cells slots g pc lv st := by
  intro H locs ls hm hI hS hl; exact k (fun n j a x y h1 h2 => hI.2.2.2 n j a x y (Or.inl h1) (Or.inl h2)) H locs ls hm hI hS hl
theorem x_drop (n : xN) (k : XW p l e R s m args below meth c s0 D Q cells slots (xu g n none) pc lv st) : XW p l e R s m args below meth c s0 D Q cells slots g pc lv st := by
  intro H locs ls hm hI hS hl; exact k H locs ls hm (hI.drop n) hS hl
theorem x_sub {g' : xG} (hs : ∀ n x, g' n = some x → g n = some x) (k : XW p l e R s m args below meth c s0 D Q cells slots g' pc lv st) : XW p l e R s m args below meth c s0 D Q cells slots g pc lv st := by
  intro H locs ls hm hI hS hl; exact k H locs ls hm (hI.sub hs) hS hl
theorem x_geq {g' : xG} (hs : g = g') (k : XW p l e R s m args below meth c s0 D Q cells slots g' pc lv st) : XW p l e R s m args below meth c s0 D Q cells slots g pc lv st := by
  subst hs; exact k
theorem x_widen {k0 n0 : Nat} (h1 : cells ≤ k0) (h2 : slots ≤ n0) (k : XW p l e R s m args below meth c s0 D Q k0 n0 g pc lv st) : XW p l e R s m args below meth c s0 D Q cells slots g pc lv st := by
  intro H locs ls hm hI hS hl; exact W.widen h1 h2 (k H locs ls hm hI hS hl)
theorem x_lveq {lv' : xL} (h : lv = lv') (k : XW p l e R s m args below meth c s0 D Q cells slots g pc lv' st) : XW p l e R s m args below meth c s0 D Q cells slots g pc lv st := by subst h; exact k
/-- fewer locals are known -/
theorem x_lvsub {lv' : xL} (hn : lv'.length = lv.length) (h : ∀ (i : Nat) (v : Value), xg lv' i = some v → xg lv i = some v) (k : XW p l e R s m args below meth c s0 D Q cells slots g pc lv' st) : XW p l e R s m args below meth c s0 D Q cells slots g pc lv st := by
  intro H locs ls hm hI hS hl; exact k H locs ls (by rw [hm, hn]) hI hS ⟨by rw [hn]; exact hl.1, hl.2.1, fun i v hv => hl.2.2 i v (h i v hv)⟩
/-- a loop: the states S a with Inv a at pc, by a measure -/
theorem x_loop {α : Type} (S : α → Nat × Nat × xG × xL × List Value) (Inv : α → Prop) (μ : α → Nat) (step : ∀ a : α, Inv a → (∀ b : α, Inv b → μ b < μ a → XW p l e R s m args below meth c s0 D Q (S b).1 (S b).2.1 (S b).2.2.1 pc (S b).2.2.2.1 (S b).2.2.2.2) → XW p l e R s m args below meth c s0 D Q (S a).1 (S a).2.1 (S a).2.2.1 pc (S a).2.2.2.1 (S a).2.2.2.2) (a : α) (ha : Inv a) : XW p l e R s m args below meth c s0 D Q (S a).1 (S a).2.1 (S a).2.2.1 pc (S a).2.2.2.1 (S a).2.2.2.2 := by
  have key : ∀ (n : Nat) (a : α), μ a < n → Inv a → XW p l e R s m args below meth c s0 D Q (S a).1 (S a).2.1 (S a).2.2.1 pc (S a).2.2.2.1 (S a).2.2.2.2 := by
    intro n
    induction n with
    | zero => intro a h; omega
    | succ n ih => intro a h hi; exact step a hi (fun b hb hm => ih b (by omega) hb)
  exact key (μ a + 1) a (by omega) ha
end XR
