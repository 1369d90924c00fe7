/-! WHAT A TEXT TELLS: its tokens (1 a word, 2 a number, 3 a sign, each with its letters) -/
abbrev Tk : Type := Nat × List Nat
def chS (c : Nat) : Bool := Nat.beq c 32 || Nat.beq c 10
def chL (c : Nat) : Bool := Nat.ble 97 c && Nat.ble c 122
def chD (c : Nat) : Bool := Nat.ble 48 c && Nat.ble c 57
/-- the next token of a text: bh says that a word or a number ended right here -/
def lxs (bh : Bool) (L : List Nat) (t : Tk) (L' : List Nat) : Prop := ∃ sp : List Nat, sp.all chS = true ∧ ((∃ c, t = (3, [c]) ∧ L = sp ++ c :: L' ∧ chS c = false ∧ chL c = false ∧ chD c = false) ∨ (∃ c w, t = (1, c :: w) ∧ L = sp ++ (c :: w ++ L') ∧ (c :: w).all chL = true ∧ (bh = true → sp ≠ []) ∧ w.length ≤ 5 ∧ chL (L'.headD 0) = false) ∨ (∃ c w, t = (2, c :: w) ∧ L = sp ++ (c :: w ++ L') ∧ (c :: w).all chD = true ∧ (bh = true → sp ≠ []) ∧ w.length ≤ 3 ∧ chD (L'.headD 0) = false))
def isWN (t : Tk) : Bool := Nat.blt t.1 3
/-- all the tokens that still come -/
def lexes : List Tk → Bool → List Nat → Prop
  | [], _, L => L.all chS = true
  | t :: ts, bh, L => ∃ L', lxs bh L t L' ∧ lexes ts (isWN t) L'
/-- what digits tell -/
def sN (w : List Nat) : Nat := w.foldl (fun n c => 10 * n + (c - 48)) 0
theorem lxs_kind {bh : Bool} {L L' : List Nat} {t : Tk} (h : lxs bh L t L') : t.1 = 1 ∨ t.1 = 2 ∨ t.1 = 3 := by
  obtain ⟨sp, -, ⟨c, rfl, -⟩ | ⟨c, w, rfl, -⟩ | ⟨c, w, rfl, -⟩⟩ := h
  · exact Or.inr (Or.inr rfl)
  · exact Or.inl rfl
  · exact Or.inr (Or.inl rfl)
theorem lex_sp {ts : List Tk} {bh : Bool} {L : List Nat} {c : Nat} (hc : chS c = true) (h : lexes ts false L) : lexes ts bh (c :: L) := by
  cases ts with
  | nil => exact (by simp [hc]; simpa [lexes] using h : (c :: L).all chS = true)
  | cons t ts =>
    obtain ⟨L', ⟨sp, h1, h2⟩, h3⟩ := h
    refine ⟨L', ⟨c :: sp, by simp [hc]; simpa using h1, ?_⟩, h3⟩
    rcases h2 with ⟨d, e, q, r⟩ | ⟨d, w, e, q, r1, r2, r3⟩ | ⟨d, w, e, q, r1, r2, r3⟩
    · exact Or.inl ⟨d, e, by rw [q]; rfl, r⟩
    · exact Or.inr (Or.inl ⟨d, w, e, by rw [q]; rfl, r1, fun _ => by simp, r3⟩)
    · exact Or.inr (Or.inr ⟨d, w, e, by rw [q]; rfl, r1, fun _ => by simp, r3⟩)
theorem lex_sign {ts : List Tk} {bh : Bool} {L : List Nat} {c : Nat} (h1 : chS c = false) (h2 : chL c = false) (h3 : chD c = false) (h : lexes ts false L) : lexes ((3, [c]) :: ts) bh (c :: L) :=
  ⟨L, ⟨[], rfl, Or.inl ⟨c, rfl, rfl, h1, h2, h3⟩⟩, h⟩
theorem lex_word {ts : List Tk} {L : List Nat} {w : List Nat} (h1 : w.all chL = true) (h2 : 0 < w.length) (h3 : w.length ≤ 6) (h4 : chL (L.headD 0) = false) (h : lexes ts true L) : lexes ((1, w) :: ts) false (w ++ L) := by
  cases w with
  | nil => exact absurd h2 (by decide)
  | cons c w => exact ⟨L, ⟨[], rfl, Or.inr (Or.inl ⟨c, w, rfl, rfl, h1, (fun q => by cases q), by simpa using h3, h4⟩)⟩, h⟩
theorem lex_num {ts : List Tk} {L : List Nat} {w : List Nat} (h1 : w.all chD = true) (h2 : 0 < w.length) (h3 : w.length ≤ 4) (h4 : chD (L.headD 0) = false) (h : lexes ts true L) : lexes ((2, w) :: ts) false (w ++ L) := by
  cases w with
  | nil => exact absurd h2 (by decide)
  | cons c w => exact ⟨L, ⟨[], rfl, Or.inr (Or.inr ⟨c, w, rfl, rfl, h1, (fun q => by cases q), by simpa using h3, h4⟩)⟩, h⟩
theorem drop_at {tx : List Nat} {p : Nat} {L : List Nat} (h : tx.drop p = L) (j : Nat) : tx.getD (p + j) 0 = L.getD j 0 := by
  rw [← h, List.getD_eq_getElem?_getD, List.getD_eq_getElem?_getD, List.getElem?_drop]
theorem drop_len {tx : List Nat} {p : Nat} {L : List Nat} (h : tx.drop p = L) (hp : p ≤ tx.length) : tx.length = p + L.length := by
  rw [← h, List.length_drop]; omega
theorem drop_more {tx : List Nat} {p : Nat} {u L : List Nat} (h : tx.drop p = u ++ L) : tx.drop (p + u.length) = L := by
  rw [← List.drop_drop, h, List.drop_left]
theorem all_getD {f : Nat → Bool} {w : List Nat} (h : w.all f = true) {j : Nat} (hj : j < w.length) : f (w.getD j 0) = true := by
  rw [List.getD_eq_getElem?_getD, List.getElem?_eq_getElem hj]
  exact List.all_eq_true.mp h _ (List.getElem_mem hj)
theorem sp_at {sp : List Nat} {c : Nat} {L : List Nat} (h : sp.all chS = true) {j : Nat} (hj : j ≤ sp.length) : (j < sp.length → chS ((sp ++ c :: L).getD j 0) = true) ∧ (j = sp.length → (sp ++ c :: L).getD j 0 = c) := by
  constructor
  · intro q
    rw [gD_app q]
    exact all_getD h q
  · intro q
    rw [gD_appr (by omega), q, Nat.sub_self]
    rfl
theorem nI_32 {c : Nat} (hc : c < 128) : nI c = 32 ↔ c = 32 := by
  rw [show (32 : Int32) = nI 32 from rfl]; exact nI_eq (by omega) (by decide)
theorem nI_10 {c : Nat} (hc : c < 128) : nI c = 10 ↔ c = 10 := by
  rw [show (10 : Int32) = nI 10 from rfl]; exact nI_eq (by omega) (by decide)
theorem chS_iff (c : Nat) : chS c = true ↔ c = 32 ∨ c = 10 := by
  unfold chS
  rw [Bool.or_eq_true, Nat.beq_eq, Nat.beq_eq]
theorem chL_iff {c : Nat} (hc : c < 128) : (97 ≤ nI c ∧ nI c ≤ 122) ↔ chL c = true := by
  unfold chL
  rw [Bool.and_eq_true, Nat.ble_eq, Nat.ble_eq, show (97 : Int32) = nI 97 from rfl, show (122 : Int32) = nI 122 from rfl, nI_leI (by decide) (by omega), nI_leI (by omega) (by decide)]
theorem chD_iff {c : Nat} (hc : c < 128) : (48 ≤ nI c ∧ nI c ≤ 57) ↔ chD c = true := by
  unfold chD
  rw [Bool.and_eq_true, Nat.ble_eq, Nat.ble_eq, show (48 : Int32) = nI 48 from rfl, show (57 : Int32) = nI 57 from rfl, nI_leI (by decide) (by omega), nI_leI (by omega) (by decide)]
/-- the scanner's object: Z is the text's length, the town's address, the class's -/
abbrev scO (Z : Nat × Nat × Nat) (fr to at0 : Nat) (bd : Int) (pl nb wh op sn sg : Nat) (wd : Option Nat) : xE := xO 4 [.int (nI Z.1), .ref Z.2.1, .int (nI fr), .int (nI to), .int (nI at0), .int (iI bd), .int (nI pl), .int (nI nb), .int (nI wh), .int (nI op), .int (nI sn), .int (nI sg), va_rf wd, .ref Z.2.2]
/-- what the scanner stands in: the tape holds the text, the start's constants are named -/
def PE (g : xG) (Z : Nat × Nat × Nat) (tx : List Nat) (A V B : Nat → Nat) : Prop := (∃ (rest : List Value) (ta : Nat) (T : Nat → Int32), g (0, 0) = some (Z.2.2, xO 1 (.ref ta :: rest)) ∧ g (1, 0) = some (ta, xAi .char 1600 T) ∧ ∀ j, j < tx.length → T j = nI (tx.getD j 0)) ∧ Z.1 = tx.length ∧ tx.length ≤ 1600 ∧ sA tx ∧ KG g A V B
/-- the names that a token may change -/
def PX (g g' : xG) : Prop := ∀ n : xN, n ≠ (60, 0) → n ≠ (61, 0) → n ≠ (62, 0) → g' n = g n
theorem PX.rfl {g : xG} : PX g g := fun _ _ _ _ => Eq.refl _
theorem PX.trans {g g1 g2 : xG} (h1 : PX g g1) (h2 : PX g1 g2) : PX g g2 := fun n a b c => (h2 n a b c).trans (h1 n a b c)
theorem PX.u60 {g g1 : xG} (h : PX g g1) (x : Option (Nat × xE)) : PX g (xu g1 (60, 0) x) := fun n a b c => by rw [xu_ne a]; exact h n a b c
theorem PX.u61 {g g1 : xG} (h : PX g g1) (x : Option (Nat × xE)) : PX g (xu g1 (61, 0) x) := fun n a b c => by rw [xu_ne b]; exact h n a b c
theorem PX.u62 {g g1 : xG} (h : PX g g1) (x : Option (Nat × xE)) : PX g (xu g1 (62, 0) x) := fun n a b c => by rw [xu_ne c]; exact h n a b c
theorem PE.px {g g1 : xG} {Z : Nat × Nat × Nat} {tx : List Nat} {A V B : Nat → Nat} (h : PE g Z tx A V B) (hx : PX g g1) : PE g1 Z tx A V B := by
  obtain ⟨⟨rest, ta, T, h1, h2, h3⟩, h4, h5, h6, h7⟩ := h
  exact ⟨⟨rest, ta, T, by rw [hx _ (by decide) (by decide) (by decide)]; exact h1, by rw [hx _ (by decide) (by decide) (by decide)]; exact h2, h3⟩, h4, h5, h6, h7.ext fun n hn => hx n (fun q => by rw [q] at hn; exact absurd hn (by decide)) (fun q => by rw [q] at hn; exact absurd hn (by decide)) (fun q => by rw [q] at hn; exact absurd hn (by decide))⟩
/-- the token in hand -/
def PTk (g : xG) (t : Tk) (nb sg : Nat) (wd : Option Nat) : Prop := (t.1 = 1 → ∃ wa wv, wd = some wa ∧ g (61, 0) = some (wa, xO 23 [.ref wv, .int 0, .int 0, .int 0]) ∧ g (62, 0) = some (wv, xAi .byte t.2.length (sL t.2)) ∧ sA t.2 ∧ t.2.length ≤ 6) ∧ (t.1 = 2 → nb = sN t.2 ∧ nb ≤ 9999) ∧ (t.1 = 3 → t.2 = [sg] ∧ sg < 128)
/-- the scanner's state by the tokens that still come; sn: the first of them is in hand -/
def PSt (g : xG) (sc : Nat) (Z : Nat × Nat × Nat) (tx : List Nat) (fr to op : Nat) (sn : Bool) (tk : List Tk) : Prop :=
  ∃ (at0 : Nat) (bd : Int) (pl nb wh sg : Nat) (wd : Option Nat), g (60, 0) = some (sc, scO Z fr to at0 bd pl nb wh op (if sn then 1 else 0) sg wd) ∧ at0 ≤ tx.length ∧ -1 ≤ bd ∧ bd ≤ at0 ∧ pl ≤ tx.length ∧
    ((sn = false ∧ lexes tk (decide (bd = at0)) (tx.drop at0)) ∨ (sn = true ∧ tk = [] ∧ wh = 0 ∧ at0 = tx.length) ∨ ∃ t ts, sn = true ∧ tk = t :: ts ∧ (t.1 = 1 ∨ t.1 = 2 ∨ t.1 = 3) ∧ wh = t.1 ∧ lexes ts (decide (bd = at0)) (tx.drop at0) ∧ PTk g t nb sg wd)
/-- the kind of the first token -/
def hdk (tk : List Tk) : Nat := (tk.headD (0, [])).1
