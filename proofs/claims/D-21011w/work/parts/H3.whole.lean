/-! THE START: what lies there at the law's entry -/
theorem st_classes {s : State} {b : Nat} (hts : ∀ w ∈ lw_tbl, w.before #[Value.ref b] s = true) : ∀ k : Nat, ∃ z : ClassId × (Nat → Nat), ∀ q : vw_C, xcl[k]? = some q → u_Kn s q.1 q.2.1 q.2.2 z.1 z.2 := by
  intro k
  match k with
  | 0 =>
    obtain ⟨c, i, h⟩ := u_known (C := RX1) (T := TX1) (N := 12) (n := 12) hts (fun w hw => lw_all_tbl (in_X1 w hw)) (hts _ (lw_all_tbl q1103))
    exact ⟨(c, i), fun q hq => by cases hq; exact h⟩
  | 1 =>
    obtain ⟨c, i, h⟩ := u_known (C := RX2) (T := TX2) (N := 16) (n := 16) hts (fun w hw => lw_all_tbl (in_X2 w hw)) (hts _ (lw_all_tbl q119))
    exact ⟨(c, i), fun q hq => by cases hq; exact h⟩
  | 2 =>
    obtain ⟨c, i, h⟩ := u_known (C := RX3) (T := TX3) (N := 10) (n := 10) hts (fun w hw => lw_all_tbl (in_X3 w hw)) (hts _ (lw_all_tbl q127))
    exact ⟨(c, i), fun q hq => by cases hq; exact h⟩
  | 3 =>
    obtain ⟨c, i, h⟩ := u_known (C := RX4) (T := TX4) (N := 1) (n := 1) hts (fun w hw => lw_all_tbl (in_X4 w hw)) (hts _ (lw_all_tbl q211))
    exact ⟨(c, i), fun q hq => by cases hq; exact h⟩
  | 4 =>
    obtain ⟨c, i, h⟩ := u_known (C := RX5) (T := TX5) (N := 14) (n := 14) hts (fun w hw => lw_all_tbl (in_X5 w hw)) (hts _ (lw_all_tbl q284))
    exact ⟨(c, i), fun q hq => by cases hq; exact h⟩
  | 5 =>
    obtain ⟨c, i, h⟩ := u_known (C := RX8) (T := TX8) (N := 9) (n := 9) hts (fun w hw => lw_all_tbl (in_X8 w hw)) (hts _ (lw_all_tbl q574))
    exact ⟨(c, i), fun q hq => by cases hq; exact h⟩
  | 6 =>
    obtain ⟨c, i, h⟩ := u_known (C := RX9) (T := TX9) (N := 5) (n := 5) hts (fun w hw => lw_all_tbl (in_X9 w hw)) (hts _ (lw_all_tbl q755))
    exact ⟨(c, i), fun q hq => by cases hq; exact h⟩
  | 7 =>
    obtain ⟨c, i, h⟩ := u_known (C := RX10) (T := TX10) (N := 1) (n := 1) hts (fun w hw => lw_all_tbl (in_X10 w hw)) (hts _ (lw_all_tbl q807))
    exact ⟨(c, i), fun q hq => by cases hq; exact h⟩
  | 8 =>
    obtain ⟨c, i, h⟩ := u_known (C := RX11) (T := TX11) (N := 1) (n := 1) hts (fun w hw => lw_all_tbl (in_X11 w hw)) (hts _ (lw_all_tbl q823))
    exact ⟨(c, i), fun q hq => by cases hq; exact h⟩
  | 9 =>
    obtain ⟨c, i, h⟩ := u_known (C := RX12) (T := TX12) (N := 0) (n := 0) hts (fun w hw => lw_all_tbl (in_X12 w hw)) (hts _ (lw_all_tbl q880))
    exact ⟨(c, i), fun q hq => by cases hq; exact h⟩
  | 10 =>
    obtain ⟨c, i, h⟩ := u_known (C := RX13) (T := TX13) (N := 3) (n := 3) hts (fun w hw => lw_all_tbl (in_X13 w hw)) (hts _ (lw_all_tbl q891))
    exact ⟨(c, i), fun q hq => by cases hq; exact h⟩
  | 11 =>
    obtain ⟨c, i, h⟩ := u_known (C := RX14) (T := TX14) (N := 1) (n := 1) hts (fun w hw => lw_all_tbl (in_X14 w hw)) (hts _ (lw_all_tbl q916))
    exact ⟨(c, i), fun q hq => by cases hq; exact h⟩
  | 12 =>
    obtain ⟨c, i, h⟩ := u_known (C := RX15) (T := TX15) (N := 2) (n := 2) hts (fun w hw => lw_all_tbl (in_X15 w hw)) (hts _ (lw_all_tbl q937))
    exact ⟨(c, i), fun q hq => by cases hq; exact h⟩
  | 13 =>
    obtain ⟨c, i, h⟩ := u_known (C := RX16) (T := TX16) (N := 3) (n := 3) hts (fun w hw => lw_all_tbl (in_X16 w hw)) (hts _ (lw_all_tbl q955))
    exact ⟨(c, i), fun q hq => by cases hq; exact h⟩
  | 14 =>
    obtain ⟨c, i, h⟩ := u_known (C := RX17) (T := TX17) (N := 3) (n := 3) hts (fun w hw => lw_all_tbl (in_X17 w hw)) (hts _ (lw_all_tbl q973))
    exact ⟨(c, i), fun q hq => by cases hq; exact h⟩
  | 15 =>
    obtain ⟨c, i, h⟩ := u_known (C := RX18) (T := TX18) (N := 2) (n := 2) hts (fun w hw => lw_all_tbl (in_X18 w hw)) (hts _ (lw_all_tbl q993))
    exact ⟨(c, i), fun q hq => by cases hq; exact h⟩
  | 16 =>
    obtain ⟨c, i, h⟩ := u_known (C := RX19) (T := TX19) (N := 19) (n := 19) hts (fun w hw => lw_all_tbl (in_X19 w hw)) (hts _ (lw_all_tbl q1597))
    exact ⟨(c, i), fun q hq => by cases hq; exact h⟩
  | 17 =>
    obtain ⟨c, i, h⟩ := u_known (C := RX20) (T := TX20) (N := 5) (n := 5) hts (fun w hw => lw_all_tbl (in_X20 w hw)) (hts _ (lw_all_tbl q1630))
    exact ⟨(c, i), fun q hq => by cases hq; exact h⟩
  | 18 =>
    obtain ⟨c, i, h⟩ := u_known (C := RX21) (T := TX21) (N := 5) (n := 5) hts (fun w hw => lw_all_tbl (in_X21 w hw)) (hts _ (lw_all_tbl q1668))
    exact ⟨(c, i), fun q hq => by cases hq; exact h⟩
  | 19 =>
    obtain ⟨c, i, h⟩ := u_known (C := RX22) (T := TX22) (N := 7) (n := 7) hts (fun w hw => lw_all_tbl (in_X22 w hw)) (hts _ (lw_all_tbl q1887))
    exact ⟨(c, i), fun q hq => by cases hq; exact h⟩
  | 20 =>
    obtain ⟨c, i, h⟩ := u_known (C := RX23) (T := TX23) (N := 7) (n := 7) hts (fun w hw => lw_all_tbl (in_X23 w hw)) (hts _ (lw_all_tbl q1948))
    exact ⟨(c, i), fun q hq => by cases hq; exact h⟩
  | 21 =>
    obtain ⟨c, i, h⟩ := u_known (C := RJ3) (T := TJ3) (N := 3) (n := 3) hts (fun w hw => lw_all_tbl (in_J3 w hw)) (hts _ (lw_all_tbl q133))
    exact ⟨(c, i), fun q hq => by cases hq; exact h⟩
  | 22 =>
    obtain ⟨c, i, h⟩ := u_known (C := RJ5) (T := TJ5) (N := 4) (n := 4) hts (fun w hw => lw_all_tbl (in_J5 w hw)) (hts _ (lw_all_tbl q1001))
    exact ⟨(c, i), fun q hq => by cases hq; exact h⟩
  | 23 =>
    obtain ⟨c, i, h⟩ := u_known (C := RJ6) (T := TJ6) (N := 4) (n := 4) hts (fun w hw => lw_all_tbl (in_J6 w hw)) (hts _ (lw_all_tbl q422))
    exact ⟨(c, i), fun q hq => by cases hq; exact h⟩
  | k + 24 =>
    obtain ⟨c, i, h⟩ := u_known (C := RX1) (T := TX1) (N := 12) (n := 12) hts (fun w hw => lw_all_tbl (in_X1 w hw)) (hts _ (lw_all_tbl q1103))
    exact ⟨(c, i), fun q hq => by simp [xcl] at hq⟩
/-- the names at the law's entry -/
def gI (A V B : Nat → Nat) (d0 b L : Nat) (xs : Nat → Int32) : xG := fun n => if n = (1004, 0) then some (b, xAi .int L xs) else if n = (1000, 0) then some (d0, xAr (.object "java/lang/Object") 0 (fun _ => none)) else cst A V B n
theorem gI_free {A V B : Nat → Nat} {d0 b L : Nat} {xs : Nat → Int32} (n : xN) (h : n.1 < 1000 ∨ 2000 ≤ n.1) : gI A V B d0 b L xs n = none := by
  unfold gI
  rw [if_neg (fun e => by subst e; exact absurd h (by decide)), if_neg (fun e => by subst e; exact absurd h (by decide))]
  unfold cst
  split
  · next e => omega
  · next e => omega
  · next e => omega
  · rfl
theorem gI_KG {A V B : Nat → Nat} {d0 b L : Nat} {xs : Nat → Int32} : KG (gI A V B d0 b L xs) A V B := fun n h1 h2 => by
  unfold gI
  rw [if_neg (fun e => by subst e; exact absurd h2 (by decide)), if_neg (fun e => by subst e; exact absurd h1 (by decide))]
theorem gI_x {s : State} {D : va_G} {A V B : Nat → Nat} {d0 b L : Nat} {xs : Nat → Int32} (hS : KS0 s A V B) (hd0 : d0 < s.heap.size) (hxd : xats s d0 (xAr (.object "java/lang/Object") 0 (fun _ => none))) (hX : va_X b L xs s s.heap) (hbl : b < s.heap.size) : xI s D (gI A V B d0 b L xs) s.heap := by
  refine ⟨Nat.le_refl _, fun _ _ => rfl, fun n a x hn => ?_, fun n k a x y dn dk hn hk => ?_⟩
  · refine Or.inr (Or.inl ?_)
    have hr : 1000 ≤ n.1 ∧ n.1 < 2000 := by
      refine ⟨Nat.not_lt.mp (fun w => ?_), Nat.not_le.mp (fun w => ?_)⟩
      · rw [gI_free n (Or.inl w)] at hn; cases hn
      · rw [gI_free n (Or.inr w)] at hn; cases hn
    refine ⟨hr, ?_⟩
    unfold gI at hn
    split at hn
    · cases hn
      obtain ⟨scr, h1, h2, h3, h4, h5⟩ := hX
      exact ⟨hbl, scr, h1, h2, h3, Nat.le_of_eq h4.symm, by rw [h4], h5, fun w => absurd hbl (Nat.not_lt.mpr w)⟩
    · split at hn
      · cases hn
        exact ⟨hd0, hxd⟩
      · unfold cst at hn
        split at hn
        · split at hn
          · next h => cases hn; exact ⟨(hS.1 _ h).2.1, (hS.1 _ h).2.2.2.1⟩
          · cases hn
        · split at hn
          · next h => cases hn; exact ⟨(hS.1 _ h).2.2.1, (hS.1 _ h).2.2.2.2⟩
          · cases hn
        · split at hn
          · next h => cases hn; exact ⟨(hS.2 _ h).2.1, (hS.2 _ h).2.2⟩
          · cases hn
        · cases hn
  · rcases dn with w | w
    · rw [gI_free n (Or.inl w)] at hn; cases hn
    · rw [gI_free n (Or.inr w)] at hn; cases hn
set_option maxHeartbeats 4000000 in
set_option maxRecDepth 100000 in
/-- from the entry, for every script of at most 213 ints, the law comes to its end with true -/
theorem whole_start {p : Program} {e : Env} {s : State} {m : MethodId} {below : List Frame} {meth : Method} {c : Code} (l : Launch) (hflags : l.flags = flags0) {b L : Nat} {xs : Nat → Int32} (hL : L ≤ 213) (C0 : lw_At p s m meth c b L xs) : W p l e room_1 s m #[Value.ref b] below meth c s.heap [] 0 0 (lw_Z below #[Value.ref b] s) (entryFrame m ([Value.ref b] : List Value).toArray 7) := by
  obtain ⟨hx, hb, hr, hml, hown, hts, hX, hbl, hlocks, hgv⟩ := id C0
  obtain ⟨z, hz⟩ := Classical.axiomOfChoice (st_classes hts)
  have h0 : x0 l s (fun k => (z k).1, fun k => (z k).2) := ⟨hflags, ⟨fun k q hq => hz k q hq, fun k q h => by simp at h⟩, b, hts, hgv⟩
  have hC : xC p l s s (fun k => (z k).1, fun k => (z k).2) m #[Value.ref b] meth c RX0 cL_law := ⟨hx, hb, hown, fun w hw => hts w (lw_all_tbl hw), hlocks, State.WarmedH.refl s, h0, Nat.le_refl _⟩
  obtain ⟨A, V, B, hS⟩ := c_ex h0
  obtain ⟨d0, hzd, hd0, hxd⟩ := c_e0 h0
  have hl := lv_entry ([.ref b]) (n := 7) (Nat.le_of_ble_eq_true rfl)
  rw [lg_entry_eq]
  refine law_start h0 hC hr hlocks (g0 := gI A V B d0 b L xs) hS gI_KG ⟨hzd, _, rfl⟩ hL rfl gI_free s.heap [] _ hml (gI_x hS hd0 hxd hX hbl) ⟨Nat.le_refl _, fun _ _ _ => rfl, fun _ h => by cases h⟩ (xlv.of hl rfl fun i v hv => ?_)
  have := xarg_mem [.ref b] i 0 v (xpad_get 7 _ _ _ hv)
  simpa using this
