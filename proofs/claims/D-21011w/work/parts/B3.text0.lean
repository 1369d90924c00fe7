/-! the text of the law's town -/
def SB (g : xG) (n nv : xN) (a v c : Nat) (f : Nat → Int32) (w : List Nat) : xG := fun k => if k = n then some (a, xO 22 [.ref v, .int 0, .int 0, .int (nI w.length)]) else if k = nv then some (v, xAi .byte c f) else g k
theorem SB_mk (g : xG) (n nv : xN) (a v c : Nat) (f : Nat → Int32) (w : List Nat) : xu (xu g nv (some (v, xAi .byte c f))) n (some (a, xO 22 [.ref v, .int 0, .int 0, .int (nI w.length)])) = SB g n nv a v c f w := by
  funext k
  unfold xu SB
  rfl
theorem SB_mk0 (g : xG) (n nv : xN) (hne : n ≠ nv) (a v c : Nat) (f : Nat → Int32) (x : Option (Nat × xE)) (w : List Nat) : xu (xu (xu g n x) nv (some (v, xAi .byte c f))) n (some (a, xO 22 [.ref v, .int 0, .int 0, .int (nI w.length)])) = SB g n nv a v c f w := by
  funext k
  by_cases h1 : k = n
  · subst h1; rw [xu_eq]; unfold SB; rw [if_pos rfl]
  rw [xu_ne h1]
  by_cases h2 : k = nv
  · subst h2; rw [xu_eq]; unfold SB; rw [if_neg h1, if_pos rfl]
  rw [xu_ne h2, xu_ne h1]
  unfold SB; rw [if_neg h1, if_neg h2]
theorem SB_up (g : xG) (n nv : xN) (a v c v1 c1 : Nat) (f f1 : Nat → Int32) (w w1 : List Nat) : xu (xu (SB g n nv a v c f w) nv (some (v1, xAi .byte c1 f1))) n (some (a, xO 22 [.ref v1, .int 0, .int 0, .int (nI w1.length)])) = SB g n nv a v1 c1 f1 w1 := by
  funext k
  by_cases h1 : k = n
  · subst h1; rw [xu_eq]; unfold SB; rw [if_pos rfl]
  rw [xu_ne h1]
  by_cases h2 : k = nv
  · subst h2; rw [xu_eq]; unfold SB; rw [if_neg h1, if_pos rfl]
  rw [xu_ne h2]
  unfold SB; rw [if_neg h1, if_neg h2, if_neg h1, if_neg h2]
theorem SB_ne {g : xG} {n nv : xN} {a v c : Nat} {f : Nat → Int32} {w : List Nat} {k : xN} (h1 : k ≠ n) (h2 : k ≠ nv) : SB g n nv a v c f w k = g k := by
  unfold SB; rw [if_neg h1, if_neg h2]
theorem SB_o (g : xG) (n nv : xN) (a v c : Nat) (f : Nat → Int32) (w : List Nat) : SB g n nv a v c f w n = some (a, xO 22 [.ref v, .int 0, .int 0, .int (nI w.length)]) := if_pos rfl
theorem SB_v {g : xG} {n nv : xN} (h : n ≠ nv) {a v c : Nat} {f : Nat → Int32} {w : List Nat} : SB g n nv a v c f w nv = some (v, xAi .byte c f) := by
  unfold SB; rw [if_neg (fun q => h q.symm), if_pos rfl]
theorem KG.sb {g : xG} {A V B : Nat → Nat} (h : KG g A V B) {n nv : xN} (hn : Nat.blt n.1 1000 = true) (hv : Nat.blt nv.1 1000 = true) (a v c : Nat) (f : Nat → Int32) (w : List Nat) : KG (SB g n nv a v c f w) A V B := by
  rw [← SB_mk]
  exact (h.up hv _).up hn _
theorem cW_sA : ∀ i, i < 86 → sA (cW i) := fun i h => sA_of ((by decide +kernel : ∀ i, i < 86 → (cW i).all (fun c => Nat.blt c 128) = true) i h)
theorem cW_len : ∀ i, i < 86 → (cW i).length < 40 := by decide +kernel
theorem sD_len {z : Nat} : (sD z).length ≤ 3 := by
  unfold sD
  split
  · exact Nat.le_of_ble_eq_true rfl
  · split <;> exact Nat.le_of_ble_eq_true rfl

theorem m_sb_c {l : Launch} {s0 : State} {D : va_G} (h0 : x0 l s0 D) (g0 : xG) {n nv nt : xN} {a v c : Nat} {f : Nat → Int32} {w : List Nat} {A V B : Nat → Nat} (hd1 : Nat.blt n.1 1000 = true) (hd2 : Nat.blt nv.1 1000 = true) (hdt : Nat.blt nt.1 1000 = true) (hne : n ≠ nv) (hn1 : nt ≠ n) (hn2 : nt ≠ nv) (hnt : g0 nt = none) (hS : KS0 s0 A V B) (hK : KG g0 A V B) (hV : sV f c w) (hl : w.length < 1800) {x : Nat} (hx : x < 128) : xMet l s0 D yJ5_append cJ5_append 2 (some (.object "java/lang/StringBuilder")) (xr 6 1 4096 240) [.ref a, .int (nI x)] (SB g0 n nv a v c f w) (fun r g1 => ∃ v1 c1 f1, r = some (.ref a) ∧ sV f1 c1 (w ++ [x]) ∧ g1 = SB g0 n nv a v1 c1 f1 (w ++ [x])) := by
  refine (m_J5_append h0 _ (nt := nt) hdt ((SB_ne hn1 hn2).trans hnt) hd1 hd2 (SB_o _ _ _ _ _ _ _ _) (SB_v hne) hV hx (by omega)).post ?_
  rintro r g1 ⟨v1, c1, f1, e1, e2, e3⟩
  refine ⟨v1, c1, f1, e1, e2, ?_⟩
  rw [e3, SB_up]

theorem m_sb_i {l : Launch} {s0 : State} {D : va_G} (h0 : x0 l s0 D) (g0 : xG) {n nv nt : xN} {a v c : Nat} {f : Nat → Int32} {w : List Nat} {A V B : Nat → Nat} (hd1 : Nat.blt n.1 1000 = true) (hd2 : Nat.blt nv.1 1000 = true) (hdt : Nat.blt nt.1 1000 = true) (hne : n ≠ nv) (hn1 : nt ≠ n) (hn2 : nt ≠ nv) (hnt : g0 nt = none) (hS : KS0 s0 A V B) (hK : KG g0 A V B) (hV : sV f c w) (hl : w.length < 1800) {x : Nat} (hx : x < 1000) : xMet l s0 D yJ5_append_3 cJ5_append_3 2 (some (.object "java/lang/StringBuilder")) (xr 6 1 4096 240) [.ref a, .int (nI x)] (SB g0 n nv a v c f w) (fun r g1 => ∃ v1 c1 f1, r = some (.ref a) ∧ sV f1 c1 (w ++ sD x) ∧ g1 = SB g0 n nv a v1 c1 f1 (w ++ sD x)) := by
  refine (m_J5_append_3 h0 _ (nt := nt) hdt ((SB_ne hn1 hn2).trans hnt) hd1 hd2 (SB_o _ _ _ _ _ _ _ _) (SB_v hne) hV hS (hK.sb hd1 hd2 _ _ _ _ _) hx hl).post ?_
  rintro r g1 ⟨v1, c1, f1, e1, e2, e3⟩
  refine ⟨v1, c1, f1, e1, e2, ?_⟩
  rw [e3, SB_up]

theorem m_sb_k {l : Launch} {s0 : State} {D : va_G} (h0 : x0 l s0 D) (g0 : xG) {n nv nt : xN} {a v c : Nat} {f : Nat → Int32} {w : List Nat} {A V B : Nat → Nat} (hd1 : Nat.blt n.1 1000 = true) (hd2 : Nat.blt nv.1 1000 = true) (hdt : Nat.blt nt.1 1000 = true) (hne : n ≠ nv) (hn1 : nt ≠ n) (hn2 : nt ≠ nv) (hnt : g0 nt = none) (hS : KS0 s0 A V B) (hK : KG g0 A V B) (hV : sV f c w) (hl : w.length < 1800) (i : Nat) (hi : Nat.blt i 86 = true) : xMet l s0 D yJ5_append_2 cJ5_append_2 2 (some (.object "java/lang/StringBuilder")) (xr 6 1 4096 240) [.ref a, .ref (A i)] (SB g0 n nv a v c f w) (fun r g1 => ∃ v1 c1 f1, r = some (.ref a) ∧ sV f1 c1 (w ++ cW i) ∧ g1 = SB g0 n nv a v1 c1 f1 (w ++ cW i)) := by
  have hcl := cW_len i (Nat.le_of_ble_eq_true hi)
  refine (m_J5_append_2 h0 _ (nt := nt) hdt ((SB_ne hn1 hn2).trans hnt) hd1 hd2 (SB_o _ _ _ _ _ _ _ _) (SB_v hne) hV (k := (1001, i)) (kv := (1002, i)) ((hK.sb hd1 hd2 _ _ _ _ _).s i hi) ((hK.sb hd1 hd2 _ _ _ _ _).v i hi) (cW_sA i (Nat.le_of_ble_eq_true hi)) (fun q => by rw [← q] at hd2; exact absurd hd2 (show ¬ Nat.blt 1002 1000 = true by decide)) (by omega)).post ?_
  rintro r g1 ⟨v1, c1, f1, e1, e2, e3⟩
  refine ⟨v1, c1, f1, e1, e2, ?_⟩
  rw [e3, SB_up]
