/-! the tokens of the law's text -/
def lexC : Nat → List Tk → Bool → List Nat → Bool
  | 0, _, _, _ => false
  | _ + 1, tk, bh, [] => tk.isEmpty && !bh
  | n + 1, tk, bh, c :: w => if chS c then lexC n tk false w else match tk with
    | [] => false
    | (k, u) :: tk1 => if k = 3 then decide (u = [c]) && (!chL c && !chD c) && lexC n tk1 false w
      else if k = 1 then !bh && (u.all chL && (Nat.blt 0 u.length && Nat.ble u.length 6)) && decide (u = (c :: w).take u.length) && (Nat.blt u.length (c :: w).length && !chL (((c :: w).drop u.length).headD 0)) && lexC n tk1 true ((c :: w).drop u.length)
      else if k = 2 then !bh && (u.all chD && (Nat.blt 0 u.length && Nat.ble u.length 4)) && decide (u = (c :: w).take u.length) && (Nat.blt u.length (c :: w).length && !chD (((c :: w).drop u.length).headD 0)) && lexC n tk1 true ((c :: w).drop u.length)
      else false
theorem headD_app {w L : List Nat} (h : 0 < w.length) : (w ++ L).headD 0 = w.headD 0 := by
  cases w with
  | nil => exact absurd h (by decide)
  | cons a w => rfl
theorem lexC_ok : ∀ (n : Nat) (tk : List Tk) (bh : Bool) (w : List Nat), lexC n tk bh w = true → ∀ ts L, lexes ts false L → lexes (tk ++ ts) bh (w ++ L)
  | 0, _, _, _, h => by cases h
  | n + 1, tk, bh, [], h => fun ts L hL => by
    simp only [lexC, Bool.and_eq_true, List.isEmpty_iff, Bool.not_eq_true'] at h
    obtain ⟨rfl, rfl⟩ := h
    exact hL
  | n + 1, tk, bh, c :: w, h => fun ts L hL => by
    unfold lexC at h
    by_cases hc : chS c = true
    · rw [if_pos hc] at h
      exact lex_sp hc (lexC_ok n tk false w h ts L hL)
    rw [if_neg hc] at h
    cases tk with
    | nil => cases h
    | cons t tk1 =>
      obtain ⟨k, u⟩ := t
      dsimp only at h
      by_cases k3 : k = 3
      · rw [if_pos k3] at h
        simp only [Bool.and_eq_true, decide_eq_true_eq, Bool.not_eq_true'] at h
        obtain ⟨⟨h1, h2, h3⟩, h4⟩ := h
        subst k3 h1
        exact lex_sign (by simpa using hc) h2 h3 (lexC_ok n tk1 false w h4 ts L hL)
      rw [if_neg k3] at h
      by_cases k1 : k = 1
      · rw [if_pos k1] at h
        simp only [Bool.and_eq_true, decide_eq_true_eq, Bool.not_eq_true', Nat.ble_eq, Nat.blt_eq] at h
        obtain ⟨⟨⟨⟨h1, h2, h3, h4⟩, h5⟩, h6, h7⟩, h8⟩ := h
        subst k1 h1
        have e : c :: w ++ L = u ++ ((c :: w).drop u.length ++ L) := by
          rw [← List.append_assoc]
          congr 1
          have := List.take_append_drop u.length (c :: w)
          rw [← h5] at this
          exact this.symm
        have hd : 0 < ((c :: w).drop u.length).length := by rw [List.length_drop]; omega
        rw [e]
        exact lex_word h2 h3 h4 (by rw [headD_app hd]; exact h7) (lexC_ok n tk1 true _ h8 ts L hL)
      rw [if_neg k1] at h
      by_cases k2 : k = 2
      · rw [if_pos k2] at h
        simp only [Bool.and_eq_true, decide_eq_true_eq, Bool.not_eq_true', Nat.ble_eq, Nat.blt_eq] at h
        obtain ⟨⟨⟨⟨h1, h2, h3, h4⟩, h5⟩, h6, h7⟩, h8⟩ := h
        subst k2 h1
        have e : c :: w ++ L = u ++ ((c :: w).drop u.length ++ L) := by
          rw [← List.append_assoc]
          congr 1
          have := List.take_append_drop u.length (c :: w)
          rw [← h5] at this
          exact this.symm
        have hd : 0 < ((c :: w).drop u.length).length := by rw [List.length_drop]; omega
        rw [e]
        exact lex_num h2 h3 h4 (by rw [headD_app hd]; exact h7) (lexC_ok n tk1 true _ h8 ts L hL)
      rw [if_neg k2] at h
      cases h
/-- a text with its tokens, whatever comes behind -/
def lexP (w : List Nat) (tk : List Tk) : Prop := ∀ ts L, lexes ts false L → lexes (tk ++ ts) false (w ++ L)
theorem lexP_nil : lexP [] [] := fun _ _ h => h
theorem lexP_app {w1 w2 : List Nat} {t1 t2 : List Tk} (h1 : lexP w1 t1) (h2 : lexP w2 t2) : lexP (w1 ++ w2) (t1 ++ t2) := fun ts L h => by
  rw [List.append_assoc, List.append_assoc]
  exact h1 _ _ (h2 ts L h)
theorem lexP_c {n : Nat} {w : List Nat} {tk : List Tk} (h : lexC n tk false w = true) : lexP w tk := lexC_ok n tk false w h
theorem sD_dig {z : Nat} (h : z < 1000) : (sD z).all chD = true ∧ 0 < (sD z).length ∧ (sD z).length ≤ 4 := by
  have h1 : ∀ z, z < 1000 → ((sD z).all chD && (Nat.blt 0 (sD z).length && Nat.ble (sD z).length 4)) = true := by decide +kernel
  have h2 := h1 z h
  simp only [Bool.and_eq_true, Nat.blt_eq, Nat.ble_eq] at h2
  exact h2
theorem sN_sD {z : Nat} (h : z < 1000) : sN (sD z) = z := (by decide +kernel : ∀ z, z < 1000 → sN (sD z) = z) z h
def kidT (α : aA) (i : Nat) : List Tk := [(1, cW 1), (1, ncw i), (1, cW 2), (2, sD (aCl α i)), (1, cW 3), (2, sD (aGr α i)), (3, [59])]
def klnT (α : aA) (i : Nat) : List Tk := [(1, cW 4), (1, nkw i), (1, cW 5), (2, sD (aRo α i)), (3, [59])]
def tkK (α : aA) : Nat → List Tk
  | 0 => []
  | i + 1 => tkK α i ++ kidT α i
def tkQ (α : aA) : Nat → List Tk
  | 0 => []
  | i + 1 => tkQ α i ++ klnT α i
def fmT (α : aA) (j kw b : Nat) : List Tk := if aI α j = 0 then [] else (1, cW kw) :: (fTk (b + (aI α j - 1)) ++ [(3, [59])])
def nuT (α : aA) : List Tk := [(1, cW 17), (2, sD (aI α 6)), (3, [59]), (1, cW 18), (2, sD (aI α 7)), (3, [59]), (1, cW 19), (2, sD (aI α 8)), (3, [59])]
def tkA (α : aA) : List Tk := tkK α (aI α 0) ++ (tkQ α (aI α 1) ++ (fmT α 2 6 70 ++ (fmT α 3 14 74 ++ (fmT α 4 15 78 ++ (fmT α 5 16 82 ++ nuT α)))))
theorem ncw_L : ∀ i, i < 6 → (ncw i).all chL = true := by decide
theorem nkw_L : ∀ i, i < 6 → (nkw i).all chL = true := by decide
theorem lex_kid (α : aA) {i : Nat} (hi : i < 6) (hc : aCl α i < 1000) (hg : aGr α i < 1000) : lexP (cW 20 ++ [97 + i] ++ cW 21 ++ sD (aCl α i) ++ cW 22 ++ sD (aGr α i) ++ [59]) (kidT α i) := fun ts L h => by
  have hc := sD_dig hc
  have hg := sD_dig hg
  have e : cW 20 ++ [97 + i] ++ cW 21 ++ sD (aCl α i) ++ cW 22 ++ sD (aGr α i) ++ [59] ++ L = cW 1 ++ (32 :: (ncw i ++ (32 :: (cW 2 ++ (32 :: (sD (aCl α i) ++ (32 :: (cW 3 ++ (32 :: (sD (aGr α i) ++ (59 :: L))))))))))) := by
    simp only [List.append_assoc]
    rfl
  rw [e]
  exact lex_word rfl (by decide) (by decide) rfl (lex_sp rfl (lex_word (ncw_L i hi) (Nat.le_of_ble_eq_true rfl) (Nat.le_of_ble_eq_true rfl) rfl (lex_sp rfl (lex_word rfl (by decide) (by decide) rfl (lex_sp rfl (lex_num hc.1 hc.2.1 hc.2.2 rfl (lex_sp rfl (lex_word rfl (by decide) (by decide) rfl (lex_sp rfl (lex_num hg.1 hg.2.1 hg.2.2 rfl (lex_sign rfl rfl rfl h)))))))))))
theorem lex_kln (α : aA) {i : Nat} (hi : i < 6) (hc : aRo α i < 1000) : lexP (cW 23 ++ [97 + i] ++ cW 24 ++ sD (aRo α i) ++ [59]) (klnT α i) := fun ts L h => by
  have hc := sD_dig hc
  have e : cW 23 ++ [97 + i] ++ cW 24 ++ sD (aRo α i) ++ [59] ++ L = cW 4 ++ (32 :: (nkw i ++ (32 :: (cW 5 ++ (32 :: (sD (aRo α i) ++ (59 :: L))))))) := by
    simp only [List.append_assoc]
    rfl
  rw [e]
  exact lex_word rfl (by decide) (by decide) rfl (lex_sp rfl (lex_word (nkw_L i hi) (Nat.le_of_ble_eq_true rfl) (Nat.le_of_ble_eq_true rfl) rfl (lex_sp rfl (lex_word rfl (by decide) (by decide) rfl (lex_sp rfl (lex_num hc.1 hc.2.1 hc.2.2 rfl (lex_sign rfl rfl rfl h)))))))
theorem lex_nu {α : aA} (h6 : aI α 6 < 1000) (h7 : aI α 7 < 1000) (h8 : aI α 8 < 1000) : lexP (cW 31 ++ sD (aI α 6) ++ cW 32 ++ sD (aI α 7) ++ cW 33 ++ sD (aI α 8) ++ [59]) (nuT α) := fun ts L h => by
  have h6 := sD_dig h6
  have h7 := sD_dig h7
  have h8 := sD_dig h8
  have e : cW 31 ++ sD (aI α 6) ++ cW 32 ++ sD (aI α 7) ++ cW 33 ++ sD (aI α 8) ++ [59] ++ L = cW 17 ++ (32 :: (sD (aI α 6) ++ (59 :: (32 :: (cW 18 ++ (32 :: (sD (aI α 7) ++ (59 :: (32 :: (cW 19 ++ (32 :: (sD (aI α 8) ++ (59 :: L))))))))))))) := by
    simp only [List.append_assoc]
    rfl
  rw [e]
  exact lex_word rfl (by decide) (by decide) rfl (lex_sp rfl (lex_num h6.1 h6.2.1 h6.2.2 rfl (lex_sign rfl rfl rfl (lex_sp rfl (lex_word rfl (by decide) (by decide) rfl (lex_sp rfl (lex_num h7.1 h7.2.1 h7.2.2 rfl (lex_sign rfl rfl rfl (lex_sp rfl (lex_word rfl (by decide) (by decide) rfl (lex_sp rfl (lex_num h8.1 h8.2.1 h8.2.2 rfl (lex_sign rfl rfl rfl h)))))))))))))
theorem lex_f : ∀ t, t < 4 → (lexC 60 ((1, cW 6) :: (fTk (70 + t) ++ [(3, [59])])) false (cW 26 ++ cW (70 + t) ++ cW 27) && (lexC 60 ((1, cW 14) :: (fTk (74 + t) ++ [(3, [59])])) false (cW 28 ++ cW (74 + t) ++ cW 27) && (lexC 60 ((1, cW 15) :: (fTk (78 + t) ++ [(3, [59])])) false (cW 29 ++ cW (78 + t) ++ cW 27) && lexC 60 ((1, cW 16) :: (fTk (82 + t) ++ [(3, [59])])) false (cW 30 ++ cW (82 + t) ++ cW 27)))) = true := by decide +kernel
theorem lex_fm {α : aA} {j h b kw : Nat} (hj : ∀ t, t < 4 → lexC 60 ((1, cW kw) :: (fTk (b + t) ++ [(3, [59])])) false (cW h ++ cW (b + t) ++ cW 27) = true) (ht : aI α j ≤ 4) : lexP (aTf α j h b) (fmT α j kw b) := by
  unfold aTf fmT
  split
  · exact lexP_nil
  · exact lexP_c (hj (aI α j - 1) (by omega))
theorem lex_tk {α : aA} (hok : aOk α) : ∀ i, i ≤ 6 → lexP (aTk α i) (tkK α i)
  | 0, _ => lexP_nil
  | i + 1, hi => by
    obtain ⟨-, -, -, -, -, -, -, -, -, hc, hg, -⟩ := id hok
    have := lexP_app (lex_tk hok i (by omega)) (lex_kid α (i := i) (by omega) (by have := hc i; omega) (by have := hg i; omega))
    simp only [← List.append_assoc] at this
    exact this
theorem lex_tq {α : aA} (hok : aOk α) : ∀ i, i ≤ 3 → lexP (aTq α i) (tkK α (aI α 0) ++ tkQ α i)
  | 0, _ => by
    have := lex_tk hok (aI α 0) hok.1
    show lexP (aTk α (aI α 0)) (tkK α (aI α 0) ++ [])
    rw [List.append_nil]
    exact this
  | i + 1, hi => by
    obtain ⟨-, -, -, -, -, -, -, -, -, -, -, hr⟩ := id hok
    have := lexP_app (lex_tq hok i (by omega)) (lex_kln α (i := i) (by omega) (by have := hr i; omega))
    simp only [← List.append_assoc] at this
    show lexP _ (tkK α (aI α 0) ++ (tkQ α i ++ klnT α i))
    rw [← List.append_assoc]
    exact this
theorem lex_all {α : aA} (hok : aOk α) : lexes (tkA α) false (aTx α) := by
  have hf := lex_f
  simp only [Bool.and_eq_true] at hf
  obtain ⟨h0, h1, h2, h3, h4, h5, h6, h7, h8, -⟩ := id hok
  have a1 := lexP_app (lex_tq hok (aI α 1) h1) (lex_fm (α := α) (j := 2) (h := 26) (b := 70) (kw := 6) (fun t ht => (hf t ht).1) h2)
  have a2 := lexP_app a1 (lex_fm (α := α) (j := 3) (h := 28) (b := 74) (kw := 14) (fun t ht => (hf t ht).2.1) h3)
  have a3 := lexP_app a2 (lex_fm (α := α) (j := 4) (h := 29) (b := 78) (kw := 15) (fun t ht => (hf t ht).2.2.1) h4)
  have a4 := lexP_app a3 (lex_fm (α := α) (j := 5) (h := 30) (b := 82) (kw := 16) (fun t ht => (hf t ht).2.2.2) h5)
  have a5 := lexP_app a4 (lex_nu (α := α) (by omega) (by omega) (by omega)) [] [] rfl
  have e1 : aTx α = aTq α (aI α 1) ++ aTf α 2 26 70 ++ aTf α 3 28 74 ++ aTf α 4 29 78 ++ aTf α 5 30 82 ++ (cW 31 ++ sD (aI α 6) ++ cW 32 ++ sD (aI α 7) ++ cW 33 ++ sD (aI α 8) ++ [59]) ++ [] := by
    rw [List.append_nil]
    simp only [← List.append_assoc]
    rfl
  have e2 : tkA α = tkK α (aI α 0) ++ tkQ α (aI α 1) ++ fmT α 2 6 70 ++ fmT α 3 14 74 ++ fmT α 4 15 78 ++ fmT α 5 16 82 ++ nuT α ++ [] := by
    rw [List.append_nil]
    unfold tkA
    simp only [← List.append_assoc]
  rw [e1, e2]
  exact a5
