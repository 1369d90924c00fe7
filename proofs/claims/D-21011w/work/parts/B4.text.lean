/-! the text of the law's town -/
section XR3
variable {p : Program} {l : Launch} {e : Env} {R : Room} {s : State} {m : MethodId} {args : Array Value} {below : List Frame} {meth : Method} {c : Code} {s0 : State} {D : va_G} {Q : State → Prop} {cells slots : Nat} {g : xG} {pc : Nat} {lv : xL} {st : List Value}
/-- two roads meet -/
theorem x_meet {α : Type} {pc2 : Nat} (S : α → Nat × Nat × xG × xL × List Value) (Inv : α → Prop) (k1 : (∀ b, Inv b → XW p l e R s m args below meth c s0 D Q (S b).1 (S b).2.1 (S b).2.2.1 pc2 (S b).2.2.2.1 (S b).2.2.2.2) → XW p l e R s m args below meth c s0 D Q cells slots g pc lv st) (k2 : ∀ b, Inv b → XW p l e R s m args below meth c s0 D Q (S b).1 (S b).2.1 (S b).2.2.1 pc2 (S b).2.2.2.1 (S b).2.2.2.2) : XW p l e R s m args below meth c s0 D Q cells slots g pc lv st := k1 k2
end XR3
def aTk (α : aA) : Nat → List Nat
  | 0 => []
  | i + 1 => aTk α i ++ cW 20 ++ [97 + i] ++ cW 21 ++ sD (aCl α i) ++ cW 22 ++ sD (aGr α i) ++ [59]
def aTq (α : aA) : Nat → List Nat
  | 0 => aTk α (aI α 0)
  | i + 1 => aTq α i ++ cW 23 ++ [97 + i] ++ cW 24 ++ sD (aRo α i) ++ [59]
def aTf (α : aA) (j h b : Nat) : List Nat := if aI α j = 0 then cW 25 else [] ++ cW h ++ cW (b + (aI α j - 1)) ++ cW 27
def aT1 (α : aA) : List Nat := aTq α (aI α 1) ++ aTf α 2 26 70
def aT2 (α : aA) : List Nat := aT1 α ++ aTf α 3 28 74
def aT3 (α : aA) : List Nat := aT2 α ++ aTf α 4 29 78
def aT4 (α : aA) : List Nat := aT3 α ++ aTf α 5 30 82
def aTx (α : aA) : List Nat := aT4 α ++ cW 31 ++ sD (aI α 6) ++ cW 32 ++ sD (aI α 7) ++ cW 33 ++ sD (aI α 8) ++ [59]
theorem aTk_len (α : aA) : ∀ i, (aTk α i).length ≤ 128 * i
  | 0 => Nat.le_refl 0
  | i + 1 => by
    have h := aTk_len α i
    have h1 := cW_len 20 (by decide)
    have h2 := cW_len 21 (by decide)
    have h3 := cW_len 22 (by decide)
    have h4 := @sD_len (aCl α i)
    have h5 := @sD_len (aGr α i)
    simp only [aTk, List.length_append, List.length_cons, List.length_nil]
    omega
theorem aTq_len {α : aA} (h0 : aI α 0 ≤ 6) : ∀ i, (aTq α i).length ≤ 768 + 85 * i
  | 0 => by have := aTk_len α (aI α 0); show (aTk α (aI α 0)).length ≤ _; omega
  | i + 1 => by
    have h := aTq_len h0 i
    have h1 := cW_len 23 (by decide)
    have h2 := cW_len 24 (by decide)
    have h4 := @sD_len (aRo α i)
    simp only [aTq, List.length_append, List.length_cons, List.length_nil]
    omega
theorem aTf_len {α : aA} {j h b : Nat} (hh : h < 86) (hb : b + 4 ≤ 86) (ht : aI α j ≤ 4) : (aTf α j h b).length ≤ 120 := by
  have h1 := cW_len 25 (by decide)
  have h2 := cW_len h hh
  have h3 := cW_len 27 (by decide)
  unfold aTf
  split
  · omega
  · have h4 := cW_len (b + (aI α j - 1)) (by omega)
    simp only [List.length_append, List.length_nil]
    omega
theorem i2c_k : ∀ i, i < 6 → ((97 + nI i).toUInt32 % 65536).toInt32 = nI (97 + i) := by decide
theorem sV_00 : sV (fun _ => 0) 16 [] := ⟨fun j hj => absurd hj (Nat.not_lt_zero j), by decide, by decide, fun t _ => (show fits .byte (.int 0) = true by decide)⟩
theorem SB_sub {g : xG} {a v c v1 c1 : Nat} {f f1 : Nat → Int32} {w w1 : List Nat} {a2 v2 c2 : Nat} {f2 : Nat → Int32} {w2 : List Nat} {X Y : Option (Nat × xE)} (h1 : g (107, 0) = none) (h2 : g (108, 0) = none) (h3 : g (111, 0) = none) (h4 : g (112, 0) = none) : ∀ n x, SB g (105, 0) (106, 0) a v1 c1 f1 w1 n = some x → xu (xu (xu (xu (SB (SB g (105, 0) (106, 0) a v c f w) (107, 0) (108, 0) a2 v2 c2 f2 w2) (112, 0) X) (111, 0) Y) (106, 0) (some (v1, xAi .byte c1 f1))) (105, 0) (some (a, xO 22 [.ref v1, .int 0, .int 0, .int (nI w1.length)])) n = some x := by
  intro n x e
  by_cases q1 : n = (105, 0)
  · subst q1; rw [xu_eq]; rw [SB_o] at e; exact e
  by_cases q2 : n = (106, 0)
  · subst q2; rw [xu_ne q1, xu_eq]; rw [SB_v (n_fst rfl)] at e; exact e
  rw [SB_ne q1 q2] at e
  have k : ∀ m : xN, g m = none → n ≠ m := fun m hm q => by rw [q, hm] at e; cases e
  rw [xu_ne q1, xu_ne q2, xu_ne (k _ h3), xu_ne (k _ h4), SB_ne (k _ h1) (k _ h2), SB_ne q1 q2]
  exact e

set_option maxHeartbeats 4000000 in
set_option maxRecDepth 100000 in
theorem m_X1_text {l : Launch} {s0 : State} {D : va_G} (h0 : x0 l s0 D) (g : xG) {aa : Nat} {α : aA} {A V B : Nat → Nat} (hA : AH g aa α) (hok : aOk α) (hS : KS0 s0 A V B) (hK : KG g A V B) (hf : ∀ k, 105 ≤ k → k ≤ 113 → g (k, 0) = none) : xMet l s0 D yX1_text cX1_text 3 (some (.object "java/lang/String")) (xr 7 110 360000 340) [.ref aa] g (fun r g1 => ∃ sr sd a v c f, r = some (.ref sr) ∧ g1 = xu (xu (SB g (105, 0) (106, 0) a v c f (aTx α)) (112, 0) (some (sd, xAi .byte (aTx α).length (sL (aTx α))))) (111, 0) (some (sr, xO 23 [.ref sd, .int 0, .int 0, .int 0]))) := by
  obtain ⟨ca, ga, ra, hat, hac, hag, har⟩ := hA
  obtain ⟨hb0, hb1, hb2, hb3, hb4, hb5, hb6, hb7, hb8, hcl, hgr, hro⟩ := hok
  have hf5 := hf 105 (by decide) (by decide)
  have hf6 := hf 106 (by decide) (by decide)
  have hf7 := hf 107 (by decide) (by decide)
  have hf8 := hf 108 (by decide) (by decide)
  have hf11 := hf 111 (by decide) (by decide)
  have hf12 := hf 112 (by decide) (by decide)
  have hf13 := hf 113 (by decide) (by decide)
  have w20 := cW_len 20 (by decide)
  have w21 := cW_len 21 (by decide)
  have w22 := cW_len 22 (by decide)
  have w23 := cW_len 23 (by decide)
  have w24 := cW_len 24 (by decide)
  have w25 := cW_len 25 (by decide)
  have w26 := cW_len 26 (by decide)
  have w27 := cW_len 27 (by decide)
  have w28 := cW_len 28 (by decide)
  have w29 := cW_len 29 (by decide)
  have w30 := cW_len 30 (by decide)
  have w31 := cW_len 31 (by decide)
  have w32 := cW_len 32 (by decide)
  have w33 := cW_len 33 (by decide)
  have y2 := cW_len (70 + (aI α 2 - 1)) (by omega)
  have y3 := cW_len (74 + (aI α 3 - 1)) (by omega)
  have y4 := cW_len (78 + (aI α 4 - 1)) (by omega)
  have y5 := cW_len (82 + (aI α 5 - 1)) (by omega)
  have u1 := aTq_len hb0 (aI α 1)
  have u2 : (aT1 α).length ≤ 1023 + 120 := by have := aTf_len (α := α) (j := 2) (h := 26) (b := 70) (by decide) (by decide) hb2; simp only [aT1, List.length_append]; omega
  have u3 : (aT2 α).length ≤ 1023 + 240 := by have := aTf_len (α := α) (j := 3) (h := 28) (b := 74) (by decide) (by decide) hb3; simp only [aT2, List.length_append]; omega
  have u4 : (aT3 α).length ≤ 1023 + 360 := by have := aTf_len (α := α) (j := 4) (h := 29) (b := 78) (by decide) (by decide) hb4; simp only [aT3, List.length_append]; omega
  have u5 : (aT4 α).length ≤ 1023 + 480 := by have := aTf_len (α := α) (j := 5) (h := 30) (b := 82) (by decide) (by decide) hb5; simp only [aT4, List.length_append]; omega
  have v1 := @sD_len (aI α 6)
  have v2 := @sD_len (aI α 7)
  have v3 := @sD_len (aI α 8)
  refine xMet.of h0 (by decide +kernel) rfl ?_
  intro zp ze zs zm za zb zf zc hC hr hnm
  refine x_new hC (fs := [.null, .int 0, .int 0, .int 0]) (105, 0) xc_22 q1177 q1001 q86 dX1_text_0 (q := 3) rfl rfl hf5 (fun j hj => by match j, hj with | 0, _ => rfl | 1, _ => rfl | 2, _ => rfl | 3, _ => rfl | j + 4, h => exact absurd h (by omega)) (by (try dsimp only); omega) (by (try dsimp only); omega) (fun a_0 => ?_)
  refine x_dup hC dX1_text_3 (q := 4) rfl rfl ?_
  refine x_callI hC xv_X1_68 dX1_text_4 (q := 7) rfl rfl (m_J5_init h0 _ (n := (105, 0)) (nv := (106, 0)) rfl rfl (xu_eq _ _ _) ((xu_ne (n_fst rfl)).trans hf6)) rfl (Nat.le_of_ble_eq_true rfl) ⟨(by (try dsimp only); omega), (by (try dsimp only); omega)⟩ ⟨(by (try dsimp only); omega), (by (try dsimp only); omega)⟩ (fun v g1 hp => ?_)
  obtain ⟨v, rfl, hg1⟩ := hp
  replace hg1 : g1 = SB g (105, 0) (106, 0) a_0 v 16 (fun _ => 0) [] := hg1.trans (SB_mk0 g (105, 0) (106, 0) (n_fst rfl) a_0 v 16 (fun _ => 0) _ [])
  subst hg1
  refine x_astorer_n hC dX1_text_7 (q := 8) rfl rfl ?_
  refine x_iconst hC dX1_text_8 (q := 9) rfl (v := (0)) (by decide) ?_
  refine x_istore_n hC dX1_text_9 (q := 10) rfl rfl ?_
  refine x_loop (S := (fun x : Nat × Nat × Nat × (Nat → Int32) => ((2 + 7 * x.1 : Nat), (20 + 28672 * x.1 : Nat), SB g (105, 0) (106, 0) a_0 x.2.1 x.2.2.1 x.2.2.2 (aTk α x.1), ([some (.ref aa), some (.ref a_0), some (.int (nI x.1))] : xL), ([] : List Value)))) (Inv := fun x => x.1 ≤ aI α 0 ∧ sV x.2.2.2 x.2.2.1 (aTk α x.1)) (μ := fun x => aI α 0 - x.1) ?_ (0, v, 16, fun _ => 0) ⟨Nat.zero_le _, sV_00⟩
  intro x hi ih
  obtain ⟨i, v, c, f⟩ := x
  dsimp only at hi ih ⊢
  obtain ⟨hi, hV⟩ := hi
  have l0 := aTk_len α i
  have l4 := @sD_len (aCl α i)
  have l5 := @sD_len (aGr α i)
  refine x_iload_n hC dX1_text_10 (q := 11) rfl rfl ?_
  refine x_aloadr_n hC dX1_text_11 (q := 12) rfl rfl ?_
  refine x_get hC xf_X1_25_0 dX1_text_12 (q := 15) rfl (n := (101, 0)) (by (repeat rw [SB_ne (n_fst rfl) (n_fst rfl)]); exact hat) rfl ?_
  refine x_icmp_ge hC dX1_text_15 (q := 18) rfl (tgt := 72) rfl (fun h15 => ?_) (fun h15 => ?_)
  · have hj3 : i = aI α 0 := by
      have := (nI_leI (by omega) (by omega)).mp (show nI (aI α 0) ≤ nI i from h15)
      omega
    subst hj3
    refine x_iconst hC dX1_text_72 (q := 73) rfl (v := (0)) (by decide) ?_
    refine x_istore_n hC dX1_text_73 (q := 74) rfl rfl ?_
    refine x_widen (k0 := 44) (n0 := 172052) (by (try dsimp only); omega) (by (try dsimp only); omega) ?_
    refine x_loop (S := (fun x : Nat × Nat × Nat × (Nat → Int32) => ((44 + 5 * x.1 : Nat), (172052 + 20480 * x.1 : Nat), SB g (105, 0) (106, 0) a_0 x.2.1 x.2.2.1 x.2.2.2 (aTq α x.1), ([some (.ref aa), some (.ref a_0), some (.int (nI x.1))] : xL), ([] : List Value)))) (Inv := fun x => x.1 ≤ aI α 1 ∧ sV x.2.2.2 x.2.2.1 (aTq α x.1)) (μ := fun x => aI α 1 - x.1) ?_ (0, v, c, f) ⟨Nat.zero_le _, hV⟩
    intro x hi ih
    obtain ⟨i, v, c, f⟩ := x
    dsimp only at hi ih ⊢
    obtain ⟨hi, hV⟩ := hi
    have l0 := aTq_len hb0 i
    have l4 := @sD_len (aRo α i)
    refine x_iload_n hC dX1_text_74 (q := 75) rfl rfl ?_
    refine x_aloadr_n hC dX1_text_75 (q := 76) rfl rfl ?_
    refine x_get hC xf_X1_29_0 dX1_text_76 (q := 79) rfl (n := (101, 0)) (by (repeat rw [SB_ne (n_fst rfl) (n_fst rfl)]); exact hat) rfl ?_
    refine x_icmp_ge hC dX1_text_79 (q := 82) rfl (tgt := 122) rfl (fun h79 => ?_) (fun h79 => ?_)
    · have hj3 : i = aI α 1 := by
        have := (nI_leI (by omega) (by omega)).mp (show nI (aI α 1) ≤ nI i from h79)
        omega
      subst hj3
      refine x_meet (pc2 := 169) (S := (fun x : Nat × Nat × (Nat → Int32) => ((67 : Nat), (254012 : Nat), SB g (105, 0) (106, 0) a_0 x.1 x.2.1 x.2.2 (aT1 α), ([some (.ref aa), some (.ref a_0), some (.int (nI (aI α 1)))] : xL), ([.ref a_0] : List Value)))) (Inv := fun x => sV x.2.2 x.2.1 (aT1 α)) (fun ih => ?_) (fun xx hi => ?_)
      · refine x_aloadr_n hC dX1_text_122 (q := 123) rfl rfl ?_
        refine x_aloadr_n hC dX1_text_123 (q := 124) rfl rfl ?_
        refine x_get hC xf_X1_36_0 dX1_text_124 (q := 127) rfl (n := (101, 0)) (by (repeat rw [SB_ne (n_fst rfl) (n_fst rfl)]); exact hat) rfl ?_
        refine x_if_ge hC dX1_text_127 (q := 130) rfl (tgt := 135) rfl (fun h127 => ?_) (fun h127 => ?_)
        · have e127 : ¬ aI α 2 = 0 := (ix_lt hb2).mp h127
          have ez : aT1 α = aTq α (aI α 1) ++ ([] ++ cW 26 ++ cW (70 + (aI α 2 - 1)) ++ cW 27) := by
            unfold aT1 aTf; rw [if_neg e127]
          have hsA : sA ([] ++ cW 26 ++ cW (70 + (aI α 2 - 1)) ++ cW 27) := sA_app (sA_app (cW_sA 26 (by decide)) (cW_sA (70 + (aI α 2 - 1)) (by omega))) (cW_sA 27 (by decide))
          refine x_new hC (fs := [.null, .int 0, .int 0, .int 0]) (107, 0) xc_22 q1177 q1001 q86 dX1_text_135 (q := 138) rfl rfl (by (repeat rw [SB_ne (n_fst rfl) (n_fst rfl)]); exact hf7) (fun j hj => by match j, hj with | 0, _ => rfl | 1, _ => rfl | 2, _ => rfl | 3, _ => rfl | j + 4, h => exact absurd h (by omega)) (by (try dsimp only); omega) (by (try dsimp only); omega) (fun a_135 => ?_)
          refine x_dup hC dX1_text_138 (q := 139) rfl rfl ?_
          refine x_callI hC xv_X1_68 dX1_text_139 (q := 142) rfl rfl (m_J5_init h0 _ (n := (107, 0)) (nv := (108, 0)) rfl rfl (xu_eq _ _ _) ((xu_ne (n_fst rfl)).trans (by (repeat rw [SB_ne (n_fst rfl) (n_fst rfl)]); exact hf8))) rfl (Nat.le_of_ble_eq_true rfl) ⟨(by (try dsimp only); omega), (by (try dsimp only); omega)⟩ ⟨(by (try dsimp only); omega), (by (try dsimp only); omega)⟩ (fun v g1 hp => ?_)
          obtain ⟨v2, rfl, hg1⟩ := hp
          replace hg1 := hg1.trans (SB_mk0 _ (107, 0) (108, 0) (n_fst rfl) a_135 v2 16 (fun _ => 0) _ [])
          subst hg1
          have hV2 := sV_00
          refine x_ldcS hC (xk_26 h0 hS) dX1_text_142 (q := 144) rfl ?_
          refine x_callV hC xv_X1_71 dX1_text_144 (q := 147) rfl rfl (m_sb_k h0 (SB g (105, 0) (106, 0) _ _ _ _ _) (n := (107, 0)) (nv := (108, 0)) (nt := (113, 0)) rfl rfl rfl (n_fst rfl) (n_fst rfl) (n_fst rfl) (by (repeat rw [SB_ne (n_fst rfl) (n_fst rfl)]); exact hf13) hS (hK.sb rfl rfl _ _ _ _ _) hV2 (by (try simp only [List.length_append, List.length_cons, List.length_nil]); omega) 26 rfl) (nn := (107, 0)) (xu_eq _ _ _) rfl rfl (Nat.le_of_ble_eq_true rfl) ⟨(by (try dsimp only); omega), (by (try dsimp only); omega)⟩ ⟨(by (try dsimp only); omega), (by (try dsimp only); omega)⟩ (fun v g1 hp => ?_)
          obtain ⟨v2, c2, f2, rfl, hV2, hg1⟩ := hp
          subst hg1
          refine x_gets hC (hS.2 2 (by decide)).1 (Or.inr ⟨_, q1117⟩) dX1_text_147 (q := 150) rfl ?_
          refine x_aloadr_n hC dX1_text_150 (q := 151) rfl rfl ?_
          refine x_get hC xf_X1_36_0 dX1_text_151 (q := 154) rfl (n := (101, 0)) (by (repeat rw [SB_ne (n_fst rfl) (n_fst rfl)]); exact hat) rfl ?_
          refine x_aald hC dX1_text_154 (q := 155) rfl (n := (1003, 2)) (by (repeat rw [SB_ne (n_fst rfl) (n_fst rfl)]); exact (hK.a 2 rfl)) (j := aI α 2 - 1) (by rw [← iI_nat]; congr 1; omega) (by omega) (by decide) rfl ?_
          refine x_callV hC xv_X1_71 dX1_text_155 (q := 158) rfl rfl (m_sb_k h0 (SB g (105, 0) (106, 0) _ _ _ _ _) (n := (107, 0)) (nv := (108, 0)) (nt := (113, 0)) rfl rfl rfl (n_fst rfl) (n_fst rfl) (n_fst rfl) (by (repeat rw [SB_ne (n_fst rfl) (n_fst rfl)]); exact hf13) hS (hK.sb rfl rfl _ _ _ _ _) hV2 (by (try simp only [List.length_append, List.length_cons, List.length_nil]); omega) (70 + (aI α 2 - 1)) (Nat.ble_eq_true_of_le (by omega))) (nn := (107, 0)) (SB_o _ _ _ _ _ _ _ _) rfl rfl (Nat.le_of_ble_eq_true rfl) ⟨(by (try dsimp only); omega), (by (try dsimp only); omega)⟩ ⟨(by (try dsimp only); omega), (by (try dsimp only); omega)⟩ (fun v g1 hp => ?_)
          obtain ⟨v2, c2, f2, rfl, hV2, hg1⟩ := hp
          subst hg1
          refine x_ldcS hC (xk_27 h0 hS) dX1_text_158 (q := 160) rfl ?_
          refine x_callV hC xv_X1_71 dX1_text_160 (q := 163) rfl rfl (m_sb_k h0 (SB g (105, 0) (106, 0) _ _ _ _ _) (n := (107, 0)) (nv := (108, 0)) (nt := (113, 0)) rfl rfl rfl (n_fst rfl) (n_fst rfl) (n_fst rfl) (by (repeat rw [SB_ne (n_fst rfl) (n_fst rfl)]); exact hf13) hS (hK.sb rfl rfl _ _ _ _ _) hV2 (by (try simp only [List.length_append, List.length_cons, List.length_nil]); omega) 27 rfl) (nn := (107, 0)) (SB_o _ _ _ _ _ _ _ _) rfl rfl (Nat.le_of_ble_eq_true rfl) ⟨(by (try dsimp only); omega), (by (try dsimp only); omega)⟩ ⟨(by (try dsimp only); omega), (by (try dsimp only); omega)⟩ (fun v g1 hp => ?_)
          obtain ⟨v2, c2, f2, rfl, hV2, hg1⟩ := hp
          subst hg1
          refine x_callV hC xv_X1_95 dX1_text_163 (q := 166) rfl rfl (m_J5_toString h0 _ (SB_o _ _ _ _ _ _ _ _) rfl (SB_v (n_fst rfl)) hV2 (kv := (112, 0)) rfl (by (repeat rw [SB_ne (n_fst rfl) (n_fst rfl)]); exact hf12) (k := (111, 0)) rfl (by (repeat rw [SB_ne (n_fst rfl) (n_fst rfl)]); exact hf11) (n_fst rfl)) (nn := (107, 0)) (SB_o _ _ _ _ _ _ _ _) rfl rfl (Nat.le_of_ble_eq_true rfl) ⟨(by (try dsimp only); omega), (by (try dsimp only); omega)⟩ ⟨(by (try dsimp only); omega), (by (try dsimp only); omega)⟩ (fun v g1 hp => ?_)
          obtain ⟨sr, sd, rfl, hg1⟩ := hp
          subst hg1
          refine x_callV hC xv_X1_71 dX1_text_166 (q := 169) rfl rfl (m_J5_append_2 h0 _ (n := (105, 0)) (nv := (106, 0)) (nt := (113, 0)) rfl (by rw [xu_ne (n_fst rfl), xu_ne (n_fst rfl)]; (repeat rw [SB_ne (n_fst rfl) (n_fst rfl)]); exact hf13) rfl rfl (by rw [xu_ne (n_fst rfl), xu_ne (n_fst rfl), SB_ne (n_fst rfl) (n_fst rfl)]; exact SB_o _ _ _ _ _ _ _ _) (by rw [xu_ne (n_fst rfl), xu_ne (n_fst rfl), SB_ne (n_fst rfl) (n_fst rfl)]; exact SB_v (n_fst rfl)) hV (k := (111, 0)) (kv := (112, 0)) (xu_eq _ _ _) ((xu_ne (n_fst rfl)).trans (xu_eq _ _ _)) hsA (n_fst rfl) (by (try simp only [List.length_append, List.length_cons, List.length_nil]); omega)) (nn := (105, 0)) (by (repeat first | rw [xu_ne (n_fst rfl)] | rw [SB_ne (n_fst rfl) (n_fst rfl)]); exact SB_o _ _ _ _ _ _ _ _) rfl rfl (Nat.le_of_ble_eq_true rfl) ⟨(by (try dsimp only); omega), (by (try dsimp only); omega)⟩ ⟨(by (try dsimp only); omega), (by (try dsimp only); omega)⟩ (fun v g1 hp => ?_)
          obtain ⟨v1, c1, f1, rfl, hV1, hg1⟩ := hp
          rw [← ez] at hV1 hg1
          subst hg1
          refine x_sub (SB_sub (v1 := v1) (c1 := c1) (f1 := f1) hf7 hf8 hf11 hf12) ?_
          first | exact x_widen (by (try dsimp only); omega) (by (try dsimp only); omega) (ih (v1, c1, f1) hV1) | exact x_widen (by (try dsimp only); omega) (by (try dsimp only); omega) (ih (v, c, f) hV)
        have ez : aT1 α = aTq α (aI α 1) ++ cW 25 := by
          unfold aT1 aTf; rw [if_pos (Classical.byContradiction (fun q => h127 ((ix_lt hb2).mpr q)))]
        refine x_ldcS hC (xk_25 h0 hS) dX1_text_130 (q := 132) rfl ?_
        refine x_goto hC dX1_text_132 (tgt := 166) rfl ?_
        refine x_callV hC xv_X1_71 dX1_text_166 (q := 169) rfl rfl (m_sb_k h0 g (nt := (113, 0)) rfl rfl rfl (n_fst rfl) (n_fst rfl) (n_fst rfl) hf13 hS hK hV (by (try simp only [List.length_append, List.length_cons, List.length_nil]); omega) 25 rfl) (nn := (105, 0)) (by (repeat first | rw [xu_ne (n_fst rfl)] | rw [SB_ne (n_fst rfl) (n_fst rfl)]); exact SB_o _ _ _ _ _ _ _ _) rfl rfl (Nat.le_of_ble_eq_true rfl) ⟨(by (try dsimp only); omega), (by (try dsimp only); omega)⟩ ⟨(by (try dsimp only); omega), (by (try dsimp only); omega)⟩ (fun v g1 hp => ?_)
        obtain ⟨v, c, f, rfl, hV, hg1⟩ := hp
        rw [← ez] at hV hg1
        subst hg1
        first | exact x_widen (by (try dsimp only); omega) (by (try dsimp only); omega) (ih (v1, c1, f1) hV1) | exact x_widen (by (try dsimp only); omega) (by (try dsimp only); omega) (ih (v, c, f) hV)
      obtain ⟨v, c, f⟩ := xx
      dsimp only at hi ⊢
      have hV := hi
      clear hi
      refine x_meet (pc2 := 215) (S := (fun x : Nat × Nat × (Nat → Int32) => ((75 : Nat), (274532 : Nat), SB g (105, 0) (106, 0) a_0 x.1 x.2.1 x.2.2 (aT2 α), ([some (.ref aa), some (.ref a_0), some (.int (nI (aI α 1)))] : xL), ([.ref a_0] : List Value)))) (Inv := fun x => sV x.2.2 x.2.1 (aT2 α)) (fun ih => ?_) (fun xx hi => ?_)
      · refine x_aloadr_n hC dX1_text_169 (q := 170) rfl rfl ?_
        refine x_get hC xf_X1_42_0 dX1_text_170 (q := 173) rfl (n := (101, 0)) (by (repeat rw [SB_ne (n_fst rfl) (n_fst rfl)]); exact hat) rfl ?_
        refine x_if_ge hC dX1_text_173 (q := 176) rfl (tgt := 181) rfl (fun h173 => ?_) (fun h173 => ?_)
        · have e173 : ¬ aI α 3 = 0 := (ix_lt hb3).mp h173
          have ez : aT2 α = aT1 α ++ ([] ++ cW 28 ++ cW (74 + (aI α 3 - 1)) ++ cW 27) := by
            unfold aT2 aTf; rw [if_neg e173]
          have hsA : sA ([] ++ cW 28 ++ cW (74 + (aI α 3 - 1)) ++ cW 27) := sA_app (sA_app (cW_sA 28 (by decide)) (cW_sA (74 + (aI α 3 - 1)) (by omega))) (cW_sA 27 (by decide))
          refine x_new hC (fs := [.null, .int 0, .int 0, .int 0]) (107, 0) xc_22 q1177 q1001 q86 dX1_text_181 (q := 184) rfl rfl (by (repeat rw [SB_ne (n_fst rfl) (n_fst rfl)]); exact hf7) (fun j hj => by match j, hj with | 0, _ => rfl | 1, _ => rfl | 2, _ => rfl | 3, _ => rfl | j + 4, h => exact absurd h (by omega)) (by (try dsimp only); omega) (by (try dsimp only); omega) (fun a_181 => ?_)
          refine x_dup hC dX1_text_184 (q := 185) rfl rfl ?_
          refine x_callI hC xv_X1_68 dX1_text_185 (q := 188) rfl rfl (m_J5_init h0 _ (n := (107, 0)) (nv := (108, 0)) rfl rfl (xu_eq _ _ _) ((xu_ne (n_fst rfl)).trans (by (repeat rw [SB_ne (n_fst rfl) (n_fst rfl)]); exact hf8))) rfl (Nat.le_of_ble_eq_true rfl) ⟨(by (try dsimp only); omega), (by (try dsimp only); omega)⟩ ⟨(by (try dsimp only); omega), (by (try dsimp only); omega)⟩ (fun v g1 hp => ?_)
          obtain ⟨v2, rfl, hg1⟩ := hp
          replace hg1 := hg1.trans (SB_mk0 _ (107, 0) (108, 0) (n_fst rfl) a_181 v2 16 (fun _ => 0) _ [])
          subst hg1
          have hV2 := sV_00
          refine x_ldcS hC (xk_28 h0 hS) dX1_text_188 (q := 190) rfl ?_
          refine x_callV hC xv_X1_71 dX1_text_190 (q := 193) rfl rfl (m_sb_k h0 (SB g (105, 0) (106, 0) _ _ _ _ _) (n := (107, 0)) (nv := (108, 0)) (nt := (113, 0)) rfl rfl rfl (n_fst rfl) (n_fst rfl) (n_fst rfl) (by (repeat rw [SB_ne (n_fst rfl) (n_fst rfl)]); exact hf13) hS (hK.sb rfl rfl _ _ _ _ _) hV2 (by (try simp only [List.length_append, List.length_cons, List.length_nil]); omega) 28 rfl) (nn := (107, 0)) (xu_eq _ _ _) rfl rfl (Nat.le_of_ble_eq_true rfl) ⟨(by (try dsimp only); omega), (by (try dsimp only); omega)⟩ ⟨(by (try dsimp only); omega), (by (try dsimp only); omega)⟩ (fun v g1 hp => ?_)
          obtain ⟨v2, c2, f2, rfl, hV2, hg1⟩ := hp
          subst hg1
          refine x_gets hC (hS.2 3 (by decide)).1 (Or.inr ⟨_, q1119⟩) dX1_text_193 (q := 196) rfl ?_
          refine x_aloadr_n hC dX1_text_196 (q := 197) rfl rfl ?_
          refine x_get hC xf_X1_42_0 dX1_text_197 (q := 200) rfl (n := (101, 0)) (by (repeat rw [SB_ne (n_fst rfl) (n_fst rfl)]); exact hat) rfl ?_
          refine x_aald hC dX1_text_200 (q := 201) rfl (n := (1003, 3)) (by (repeat rw [SB_ne (n_fst rfl) (n_fst rfl)]); exact (hK.a 3 rfl)) (j := aI α 3 - 1) (by rw [← iI_nat]; congr 1; omega) (by omega) (by decide) rfl ?_
          refine x_callV hC xv_X1_71 dX1_text_201 (q := 204) rfl rfl (m_sb_k h0 (SB g (105, 0) (106, 0) _ _ _ _ _) (n := (107, 0)) (nv := (108, 0)) (nt := (113, 0)) rfl rfl rfl (n_fst rfl) (n_fst rfl) (n_fst rfl) (by (repeat rw [SB_ne (n_fst rfl) (n_fst rfl)]); exact hf13) hS (hK.sb rfl rfl _ _ _ _ _) hV2 (by (try simp only [List.length_append, List.length_cons, List.length_nil]); omega) (74 + (aI α 3 - 1)) (Nat.ble_eq_true_of_le (by omega))) (nn := (107, 0)) (SB_o _ _ _ _ _ _ _ _) rfl rfl (Nat.le_of_ble_eq_true rfl) ⟨(by (try dsimp only); omega), (by (try dsimp only); omega)⟩ ⟨(by (try dsimp only); omega), (by (try dsimp only); omega)⟩ (fun v g1 hp => ?_)
          obtain ⟨v2, c2, f2, rfl, hV2, hg1⟩ := hp
          subst hg1
          refine x_ldcS hC (xk_27 h0 hS) dX1_text_204 (q := 206) rfl ?_
          refine x_callV hC xv_X1_71 dX1_text_206 (q := 209) rfl rfl (m_sb_k h0 (SB g (105, 0) (106, 0) _ _ _ _ _) (n := (107, 0)) (nv := (108, 0)) (nt := (113, 0)) rfl rfl rfl (n_fst rfl) (n_fst rfl) (n_fst rfl) (by (repeat rw [SB_ne (n_fst rfl) (n_fst rfl)]); exact hf13) hS (hK.sb rfl rfl _ _ _ _ _) hV2 (by (try simp only [List.length_append, List.length_cons, List.length_nil]); omega) 27 rfl) (nn := (107, 0)) (SB_o _ _ _ _ _ _ _ _) rfl rfl (Nat.le_of_ble_eq_true rfl) ⟨(by (try dsimp only); omega), (by (try dsimp only); omega)⟩ ⟨(by (try dsimp only); omega), (by (try dsimp only); omega)⟩ (fun v g1 hp => ?_)
          obtain ⟨v2, c2, f2, rfl, hV2, hg1⟩ := hp
          subst hg1
          refine x_callV hC xv_X1_95 dX1_text_209 (q := 212) rfl rfl (m_J5_toString h0 _ (SB_o _ _ _ _ _ _ _ _) rfl (SB_v (n_fst rfl)) hV2 (kv := (112, 0)) rfl (by (repeat rw [SB_ne (n_fst rfl) (n_fst rfl)]); exact hf12) (k := (111, 0)) rfl (by (repeat rw [SB_ne (n_fst rfl) (n_fst rfl)]); exact hf11) (n_fst rfl)) (nn := (107, 0)) (SB_o _ _ _ _ _ _ _ _) rfl rfl (Nat.le_of_ble_eq_true rfl) ⟨(by (try dsimp only); omega), (by (try dsimp only); omega)⟩ ⟨(by (try dsimp only); omega), (by (try dsimp only); omega)⟩ (fun v g1 hp => ?_)
          obtain ⟨sr, sd, rfl, hg1⟩ := hp
          subst hg1
          refine x_callV hC xv_X1_71 dX1_text_212 (q := 215) rfl rfl (m_J5_append_2 h0 _ (n := (105, 0)) (nv := (106, 0)) (nt := (113, 0)) rfl (by rw [xu_ne (n_fst rfl), xu_ne (n_fst rfl)]; (repeat rw [SB_ne (n_fst rfl) (n_fst rfl)]); exact hf13) rfl rfl (by rw [xu_ne (n_fst rfl), xu_ne (n_fst rfl), SB_ne (n_fst rfl) (n_fst rfl)]; exact SB_o _ _ _ _ _ _ _ _) (by rw [xu_ne (n_fst rfl), xu_ne (n_fst rfl), SB_ne (n_fst rfl) (n_fst rfl)]; exact SB_v (n_fst rfl)) hV (k := (111, 0)) (kv := (112, 0)) (xu_eq _ _ _) ((xu_ne (n_fst rfl)).trans (xu_eq _ _ _)) hsA (n_fst rfl) (by (try simp only [List.length_append, List.length_cons, List.length_nil]); omega)) (nn := (105, 0)) (by (repeat first | rw [xu_ne (n_fst rfl)] | rw [SB_ne (n_fst rfl) (n_fst rfl)]); exact SB_o _ _ _ _ _ _ _ _) rfl rfl (Nat.le_of_ble_eq_true rfl) ⟨(by (try dsimp only); omega), (by (try dsimp only); omega)⟩ ⟨(by (try dsimp only); omega), (by (try dsimp only); omega)⟩ (fun v g1 hp => ?_)
          obtain ⟨v1, c1, f1, rfl, hV1, hg1⟩ := hp
          rw [← ez] at hV1 hg1
          subst hg1
          refine x_sub (SB_sub (v1 := v1) (c1 := c1) (f1 := f1) hf7 hf8 hf11 hf12) ?_
          first | exact x_widen (by (try dsimp only); omega) (by (try dsimp only); omega) (ih (v1, c1, f1) hV1) | exact x_widen (by (try dsimp only); omega) (by (try dsimp only); omega) (ih (v, c, f) hV)
        have ez : aT2 α = aT1 α ++ cW 25 := by
          unfold aT2 aTf; rw [if_pos (Classical.byContradiction (fun q => h173 ((ix_lt hb3).mpr q)))]
        refine x_ldcS hC (xk_25 h0 hS) dX1_text_176 (q := 178) rfl ?_
        refine x_goto hC dX1_text_178 (tgt := 212) rfl ?_
        refine x_callV hC xv_X1_71 dX1_text_212 (q := 215) rfl rfl (m_sb_k h0 g (nt := (113, 0)) rfl rfl rfl (n_fst rfl) (n_fst rfl) (n_fst rfl) hf13 hS hK hV (by (try simp only [List.length_append, List.length_cons, List.length_nil]); omega) 25 rfl) (nn := (105, 0)) (by (repeat first | rw [xu_ne (n_fst rfl)] | rw [SB_ne (n_fst rfl) (n_fst rfl)]); exact SB_o _ _ _ _ _ _ _ _) rfl rfl (Nat.le_of_ble_eq_true rfl) ⟨(by (try dsimp only); omega), (by (try dsimp only); omega)⟩ ⟨(by (try dsimp only); omega), (by (try dsimp only); omega)⟩ (fun v g1 hp => ?_)
        obtain ⟨v, c, f, rfl, hV, hg1⟩ := hp
        rw [← ez] at hV hg1
        subst hg1
        first | exact x_widen (by (try dsimp only); omega) (by (try dsimp only); omega) (ih (v1, c1, f1) hV1) | exact x_widen (by (try dsimp only); omega) (by (try dsimp only); omega) (ih (v, c, f) hV)
      obtain ⟨v, c, f⟩ := xx
      dsimp only at hi ⊢
      have hV := hi
      clear hi
      refine x_meet (pc2 := 261) (S := (fun x : Nat × Nat × (Nat → Int32) => ((83 : Nat), (295052 : Nat), SB g (105, 0) (106, 0) a_0 x.1 x.2.1 x.2.2 (aT3 α), ([some (.ref aa), some (.ref a_0), some (.int (nI (aI α 1)))] : xL), ([.ref a_0] : List Value)))) (Inv := fun x => sV x.2.2 x.2.1 (aT3 α)) (fun ih => ?_) (fun xx hi => ?_)
      · refine x_aloadr_n hC dX1_text_215 (q := 216) rfl rfl ?_
        refine x_get hC xf_X1_48_0 dX1_text_216 (q := 219) rfl (n := (101, 0)) (by (repeat rw [SB_ne (n_fst rfl) (n_fst rfl)]); exact hat) rfl ?_
        refine x_if_ge hC dX1_text_219 (q := 222) rfl (tgt := 227) rfl (fun h219 => ?_) (fun h219 => ?_)
        · have e219 : ¬ aI α 4 = 0 := (ix_lt hb4).mp h219
          have ez : aT3 α = aT2 α ++ ([] ++ cW 29 ++ cW (78 + (aI α 4 - 1)) ++ cW 27) := by
            unfold aT3 aTf; rw [if_neg e219]
          have hsA : sA ([] ++ cW 29 ++ cW (78 + (aI α 4 - 1)) ++ cW 27) := sA_app (sA_app (cW_sA 29 (by decide)) (cW_sA (78 + (aI α 4 - 1)) (by omega))) (cW_sA 27 (by decide))
          refine x_new hC (fs := [.null, .int 0, .int 0, .int 0]) (107, 0) xc_22 q1177 q1001 q86 dX1_text_227 (q := 230) rfl rfl (by (repeat rw [SB_ne (n_fst rfl) (n_fst rfl)]); exact hf7) (fun j hj => by match j, hj with | 0, _ => rfl | 1, _ => rfl | 2, _ => rfl | 3, _ => rfl | j + 4, h => exact absurd h (by omega)) (by (try dsimp only); omega) (by (try dsimp only); omega) (fun a_227 => ?_)
          refine x_dup hC dX1_text_230 (q := 231) rfl rfl ?_
          refine x_callI hC xv_X1_68 dX1_text_231 (q := 234) rfl rfl (m_J5_init h0 _ (n := (107, 0)) (nv := (108, 0)) rfl rfl (xu_eq _ _ _) ((xu_ne (n_fst rfl)).trans (by (repeat rw [SB_ne (n_fst rfl) (n_fst rfl)]); exact hf8))) rfl (Nat.le_of_ble_eq_true rfl) ⟨(by (try dsimp only); omega), (by (try dsimp only); omega)⟩ ⟨(by (try dsimp only); omega), (by (try dsimp only); omega)⟩ (fun v g1 hp => ?_)
          obtain ⟨v2, rfl, hg1⟩ := hp
          replace hg1 := hg1.trans (SB_mk0 _ (107, 0) (108, 0) (n_fst rfl) a_227 v2 16 (fun _ => 0) _ [])
          subst hg1
          have hV2 := sV_00
          refine x_ldcS hC (xk_29 h0 hS) dX1_text_234 (q := 236) rfl ?_
          refine x_callV hC xv_X1_71 dX1_text_236 (q := 239) rfl rfl (m_sb_k h0 (SB g (105, 0) (106, 0) _ _ _ _ _) (n := (107, 0)) (nv := (108, 0)) (nt := (113, 0)) rfl rfl rfl (n_fst rfl) (n_fst rfl) (n_fst rfl) (by (repeat rw [SB_ne (n_fst rfl) (n_fst rfl)]); exact hf13) hS (hK.sb rfl rfl _ _ _ _ _) hV2 (by (try simp only [List.length_append, List.length_cons, List.length_nil]); omega) 29 rfl) (nn := (107, 0)) (xu_eq _ _ _) rfl rfl (Nat.le_of_ble_eq_true rfl) ⟨(by (try dsimp only); omega), (by (try dsimp only); omega)⟩ ⟨(by (try dsimp only); omega), (by (try dsimp only); omega)⟩ (fun v g1 hp => ?_)
          obtain ⟨v2, c2, f2, rfl, hV2, hg1⟩ := hp
          subst hg1
          refine x_gets hC (hS.2 4 (by decide)).1 (Or.inr ⟨_, q1121⟩) dX1_text_239 (q := 242) rfl ?_
          refine x_aloadr_n hC dX1_text_242 (q := 243) rfl rfl ?_
          refine x_get hC xf_X1_48_0 dX1_text_243 (q := 246) rfl (n := (101, 0)) (by (repeat rw [SB_ne (n_fst rfl) (n_fst rfl)]); exact hat) rfl ?_
          refine x_aald hC dX1_text_246 (q := 247) rfl (n := (1003, 4)) (by (repeat rw [SB_ne (n_fst rfl) (n_fst rfl)]); exact (hK.a 4 rfl)) (j := aI α 4 - 1) (by rw [← iI_nat]; congr 1; omega) (by omega) (by decide) rfl ?_
          refine x_callV hC xv_X1_71 dX1_text_247 (q := 250) rfl rfl (m_sb_k h0 (SB g (105, 0) (106, 0) _ _ _ _ _) (n := (107, 0)) (nv := (108, 0)) (nt := (113, 0)) rfl rfl rfl (n_fst rfl) (n_fst rfl) (n_fst rfl) (by (repeat rw [SB_ne (n_fst rfl) (n_fst rfl)]); exact hf13) hS (hK.sb rfl rfl _ _ _ _ _) hV2 (by (try simp only [List.length_append, List.length_cons, List.length_nil]); omega) (78 + (aI α 4 - 1)) (Nat.ble_eq_true_of_le (by omega))) (nn := (107, 0)) (SB_o _ _ _ _ _ _ _ _) rfl rfl (Nat.le_of_ble_eq_true rfl) ⟨(by (try dsimp only); omega), (by (try dsimp only); omega)⟩ ⟨(by (try dsimp only); omega), (by (try dsimp only); omega)⟩ (fun v g1 hp => ?_)
          obtain ⟨v2, c2, f2, rfl, hV2, hg1⟩ := hp
          subst hg1
          refine x_ldcS hC (xk_27 h0 hS) dX1_text_250 (q := 252) rfl ?_
          refine x_callV hC xv_X1_71 dX1_text_252 (q := 255) rfl rfl (m_sb_k h0 (SB g (105, 0) (106, 0) _ _ _ _ _) (n := (107, 0)) (nv := (108, 0)) (nt := (113, 0)) rfl rfl rfl (n_fst rfl) (n_fst rfl) (n_fst rfl) (by (repeat rw [SB_ne (n_fst rfl) (n_fst rfl)]); exact hf13) hS (hK.sb rfl rfl _ _ _ _ _) hV2 (by (try simp only [List.length_append, List.length_cons, List.length_nil]); omega) 27 rfl) (nn := (107, 0)) (SB_o _ _ _ _ _ _ _ _) rfl rfl (Nat.le_of_ble_eq_true rfl) ⟨(by (try dsimp only); omega), (by (try dsimp only); omega)⟩ ⟨(by (try dsimp only); omega), (by (try dsimp only); omega)⟩ (fun v g1 hp => ?_)
          obtain ⟨v2, c2, f2, rfl, hV2, hg1⟩ := hp
          subst hg1
          refine x_callV hC xv_X1_95 dX1_text_255 (q := 258) rfl rfl (m_J5_toString h0 _ (SB_o _ _ _ _ _ _ _ _) rfl (SB_v (n_fst rfl)) hV2 (kv := (112, 0)) rfl (by (repeat rw [SB_ne (n_fst rfl) (n_fst rfl)]); exact hf12) (k := (111, 0)) rfl (by (repeat rw [SB_ne (n_fst rfl) (n_fst rfl)]); exact hf11) (n_fst rfl)) (nn := (107, 0)) (SB_o _ _ _ _ _ _ _ _) rfl rfl (Nat.le_of_ble_eq_true rfl) ⟨(by (try dsimp only); omega), (by (try dsimp only); omega)⟩ ⟨(by (try dsimp only); omega), (by (try dsimp only); omega)⟩ (fun v g1 hp => ?_)
          obtain ⟨sr, sd, rfl, hg1⟩ := hp
          subst hg1
          refine x_callV hC xv_X1_71 dX1_text_258 (q := 261) rfl rfl (m_J5_append_2 h0 _ (n := (105, 0)) (nv := (106, 0)) (nt := (113, 0)) rfl (by rw [xu_ne (n_fst rfl), xu_ne (n_fst rfl)]; (repeat rw [SB_ne (n_fst rfl) (n_fst rfl)]); exact hf13) rfl rfl (by rw [xu_ne (n_fst rfl), xu_ne (n_fst rfl), SB_ne (n_fst rfl) (n_fst rfl)]; exact SB_o _ _ _ _ _ _ _ _) (by rw [xu_ne (n_fst rfl), xu_ne (n_fst rfl), SB_ne (n_fst rfl) (n_fst rfl)]; exact SB_v (n_fst rfl)) hV (k := (111, 0)) (kv := (112, 0)) (xu_eq _ _ _) ((xu_ne (n_fst rfl)).trans (xu_eq _ _ _)) hsA (n_fst rfl) (by (try simp only [List.length_append, List.length_cons, List.length_nil]); omega)) (nn := (105, 0)) (by (repeat first | rw [xu_ne (n_fst rfl)] | rw [SB_ne (n_fst rfl) (n_fst rfl)]); exact SB_o _ _ _ _ _ _ _ _) rfl rfl (Nat.le_of_ble_eq_true rfl) ⟨(by (try dsimp only); omega), (by (try dsimp only); omega)⟩ ⟨(by (try dsimp only); omega), (by (try dsimp only); omega)⟩ (fun v g1 hp => ?_)
          obtain ⟨v1, c1, f1, rfl, hV1, hg1⟩ := hp
          rw [← ez] at hV1 hg1
          subst hg1
          refine x_sub (SB_sub (v1 := v1) (c1 := c1) (f1 := f1) hf7 hf8 hf11 hf12) ?_
          first | exact x_widen (by (try dsimp only); omega) (by (try dsimp only); omega) (ih (v1, c1, f1) hV1) | exact x_widen (by (try dsimp only); omega) (by (try dsimp only); omega) (ih (v, c, f) hV)
        have ez : aT3 α = aT2 α ++ cW 25 := by
          unfold aT3 aTf; rw [if_pos (Classical.byContradiction (fun q => h219 ((ix_lt hb4).mpr q)))]
        refine x_ldcS hC (xk_25 h0 hS) dX1_text_222 (q := 224) rfl ?_
        refine x_goto hC dX1_text_224 (tgt := 258) rfl ?_
        refine x_callV hC xv_X1_71 dX1_text_258 (q := 261) rfl rfl (m_sb_k h0 g (nt := (113, 0)) rfl rfl rfl (n_fst rfl) (n_fst rfl) (n_fst rfl) hf13 hS hK hV (by (try simp only [List.length_append, List.length_cons, List.length_nil]); omega) 25 rfl) (nn := (105, 0)) (by (repeat first | rw [xu_ne (n_fst rfl)] | rw [SB_ne (n_fst rfl) (n_fst rfl)]); exact SB_o _ _ _ _ _ _ _ _) rfl rfl (Nat.le_of_ble_eq_true rfl) ⟨(by (try dsimp only); omega), (by (try dsimp only); omega)⟩ ⟨(by (try dsimp only); omega), (by (try dsimp only); omega)⟩ (fun v g1 hp => ?_)
        obtain ⟨v, c, f, rfl, hV, hg1⟩ := hp
        rw [← ez] at hV hg1
        subst hg1
        first | exact x_widen (by (try dsimp only); omega) (by (try dsimp only); omega) (ih (v1, c1, f1) hV1) | exact x_widen (by (try dsimp only); omega) (by (try dsimp only); omega) (ih (v, c, f) hV)
      obtain ⟨v, c, f⟩ := xx
      dsimp only at hi ⊢
      have hV := hi
      clear hi
      refine x_meet (pc2 := 307) (S := (fun x : Nat × Nat × (Nat → Int32) => ((91 : Nat), (315572 : Nat), SB g (105, 0) (106, 0) a_0 x.1 x.2.1 x.2.2 (aT4 α), ([some (.ref aa), some (.ref a_0), some (.int (nI (aI α 1)))] : xL), ([.ref a_0] : List Value)))) (Inv := fun x => sV x.2.2 x.2.1 (aT4 α)) (fun ih => ?_) (fun xx hi => ?_)
      · refine x_aloadr_n hC dX1_text_261 (q := 262) rfl rfl ?_
        refine x_get hC xf_X1_54_0 dX1_text_262 (q := 265) rfl (n := (101, 0)) (by (repeat rw [SB_ne (n_fst rfl) (n_fst rfl)]); exact hat) rfl ?_
        refine x_if_ge hC dX1_text_265 (q := 268) rfl (tgt := 273) rfl (fun h265 => ?_) (fun h265 => ?_)
        · have e265 : ¬ aI α 5 = 0 := (ix_lt hb5).mp h265
          have ez : aT4 α = aT3 α ++ ([] ++ cW 30 ++ cW (82 + (aI α 5 - 1)) ++ cW 27) := by
            unfold aT4 aTf; rw [if_neg e265]
          have hsA : sA ([] ++ cW 30 ++ cW (82 + (aI α 5 - 1)) ++ cW 27) := sA_app (sA_app (cW_sA 30 (by decide)) (cW_sA (82 + (aI α 5 - 1)) (by omega))) (cW_sA 27 (by decide))
          refine x_new hC (fs := [.null, .int 0, .int 0, .int 0]) (107, 0) xc_22 q1177 q1001 q86 dX1_text_273 (q := 276) rfl rfl (by (repeat rw [SB_ne (n_fst rfl) (n_fst rfl)]); exact hf7) (fun j hj => by match j, hj with | 0, _ => rfl | 1, _ => rfl | 2, _ => rfl | 3, _ => rfl | j + 4, h => exact absurd h (by omega)) (by (try dsimp only); omega) (by (try dsimp only); omega) (fun a_273 => ?_)
          refine x_dup hC dX1_text_276 (q := 277) rfl rfl ?_
          refine x_callI hC xv_X1_68 dX1_text_277 (q := 280) rfl rfl (m_J5_init h0 _ (n := (107, 0)) (nv := (108, 0)) rfl rfl (xu_eq _ _ _) ((xu_ne (n_fst rfl)).trans (by (repeat rw [SB_ne (n_fst rfl) (n_fst rfl)]); exact hf8))) rfl (Nat.le_of_ble_eq_true rfl) ⟨(by (try dsimp only); omega), (by (try dsimp only); omega)⟩ ⟨(by (try dsimp only); omega), (by (try dsimp only); omega)⟩ (fun v g1 hp => ?_)
          obtain ⟨v2, rfl, hg1⟩ := hp
          replace hg1 := hg1.trans (SB_mk0 _ (107, 0) (108, 0) (n_fst rfl) a_273 v2 16 (fun _ => 0) _ [])
          subst hg1
          have hV2 := sV_00
          refine x_ldcS hC (xk_30 h0 hS) dX1_text_280 (q := 282) rfl ?_
          refine x_callV hC xv_X1_71 dX1_text_282 (q := 285) rfl rfl (m_sb_k h0 (SB g (105, 0) (106, 0) _ _ _ _ _) (n := (107, 0)) (nv := (108, 0)) (nt := (113, 0)) rfl rfl rfl (n_fst rfl) (n_fst rfl) (n_fst rfl) (by (repeat rw [SB_ne (n_fst rfl) (n_fst rfl)]); exact hf13) hS (hK.sb rfl rfl _ _ _ _ _) hV2 (by (try simp only [List.length_append, List.length_cons, List.length_nil]); omega) 30 rfl) (nn := (107, 0)) (xu_eq _ _ _) rfl rfl (Nat.le_of_ble_eq_true rfl) ⟨(by (try dsimp only); omega), (by (try dsimp only); omega)⟩ ⟨(by (try dsimp only); omega), (by (try dsimp only); omega)⟩ (fun v g1 hp => ?_)
          obtain ⟨v2, c2, f2, rfl, hV2, hg1⟩ := hp
          subst hg1
          refine x_gets hC (hS.2 5 (by decide)).1 (Or.inr ⟨_, q1123⟩) dX1_text_285 (q := 288) rfl ?_
          refine x_aloadr_n hC dX1_text_288 (q := 289) rfl rfl ?_
          refine x_get hC xf_X1_54_0 dX1_text_289 (q := 292) rfl (n := (101, 0)) (by (repeat rw [SB_ne (n_fst rfl) (n_fst rfl)]); exact hat) rfl ?_
          refine x_aald hC dX1_text_292 (q := 293) rfl (n := (1003, 5)) (by (repeat rw [SB_ne (n_fst rfl) (n_fst rfl)]); exact (hK.a 5 rfl)) (j := aI α 5 - 1) (by rw [← iI_nat]; congr 1; omega) (by omega) (by decide) rfl ?_
          refine x_callV hC xv_X1_71 dX1_text_293 (q := 296) rfl rfl (m_sb_k h0 (SB g (105, 0) (106, 0) _ _ _ _ _) (n := (107, 0)) (nv := (108, 0)) (nt := (113, 0)) rfl rfl rfl (n_fst rfl) (n_fst rfl) (n_fst rfl) (by (repeat rw [SB_ne (n_fst rfl) (n_fst rfl)]); exact hf13) hS (hK.sb rfl rfl _ _ _ _ _) hV2 (by (try simp only [List.length_append, List.length_cons, List.length_nil]); omega) (82 + (aI α 5 - 1)) (Nat.ble_eq_true_of_le (by omega))) (nn := (107, 0)) (SB_o _ _ _ _ _ _ _ _) rfl rfl (Nat.le_of_ble_eq_true rfl) ⟨(by (try dsimp only); omega), (by (try dsimp only); omega)⟩ ⟨(by (try dsimp only); omega), (by (try dsimp only); omega)⟩ (fun v g1 hp => ?_)
          obtain ⟨v2, c2, f2, rfl, hV2, hg1⟩ := hp
          subst hg1
          refine x_ldcS hC (xk_27 h0 hS) dX1_text_296 (q := 298) rfl ?_
          refine x_callV hC xv_X1_71 dX1_text_298 (q := 301) rfl rfl (m_sb_k h0 (SB g (105, 0) (106, 0) _ _ _ _ _) (n := (107, 0)) (nv := (108, 0)) (nt := (113, 0)) rfl rfl rfl (n_fst rfl) (n_fst rfl) (n_fst rfl) (by (repeat rw [SB_ne (n_fst rfl) (n_fst rfl)]); exact hf13) hS (hK.sb rfl rfl _ _ _ _ _) hV2 (by (try simp only [List.length_append, List.length_cons, List.length_nil]); omega) 27 rfl) (nn := (107, 0)) (SB_o _ _ _ _ _ _ _ _) rfl rfl (Nat.le_of_ble_eq_true rfl) ⟨(by (try dsimp only); omega), (by (try dsimp only); omega)⟩ ⟨(by (try dsimp only); omega), (by (try dsimp only); omega)⟩ (fun v g1 hp => ?_)
          obtain ⟨v2, c2, f2, rfl, hV2, hg1⟩ := hp
          subst hg1
          refine x_callV hC xv_X1_95 dX1_text_301 (q := 304) rfl rfl (m_J5_toString h0 _ (SB_o _ _ _ _ _ _ _ _) rfl (SB_v (n_fst rfl)) hV2 (kv := (112, 0)) rfl (by (repeat rw [SB_ne (n_fst rfl) (n_fst rfl)]); exact hf12) (k := (111, 0)) rfl (by (repeat rw [SB_ne (n_fst rfl) (n_fst rfl)]); exact hf11) (n_fst rfl)) (nn := (107, 0)) (SB_o _ _ _ _ _ _ _ _) rfl rfl (Nat.le_of_ble_eq_true rfl) ⟨(by (try dsimp only); omega), (by (try dsimp only); omega)⟩ ⟨(by (try dsimp only); omega), (by (try dsimp only); omega)⟩ (fun v g1 hp => ?_)
          obtain ⟨sr, sd, rfl, hg1⟩ := hp
          subst hg1
          refine x_callV hC xv_X1_71 dX1_text_304 (q := 307) rfl rfl (m_J5_append_2 h0 _ (n := (105, 0)) (nv := (106, 0)) (nt := (113, 0)) rfl (by rw [xu_ne (n_fst rfl), xu_ne (n_fst rfl)]; (repeat rw [SB_ne (n_fst rfl) (n_fst rfl)]); exact hf13) rfl rfl (by rw [xu_ne (n_fst rfl), xu_ne (n_fst rfl), SB_ne (n_fst rfl) (n_fst rfl)]; exact SB_o _ _ _ _ _ _ _ _) (by rw [xu_ne (n_fst rfl), xu_ne (n_fst rfl), SB_ne (n_fst rfl) (n_fst rfl)]; exact SB_v (n_fst rfl)) hV (k := (111, 0)) (kv := (112, 0)) (xu_eq _ _ _) ((xu_ne (n_fst rfl)).trans (xu_eq _ _ _)) hsA (n_fst rfl) (by (try simp only [List.length_append, List.length_cons, List.length_nil]); omega)) (nn := (105, 0)) (by (repeat first | rw [xu_ne (n_fst rfl)] | rw [SB_ne (n_fst rfl) (n_fst rfl)]); exact SB_o _ _ _ _ _ _ _ _) rfl rfl (Nat.le_of_ble_eq_true rfl) ⟨(by (try dsimp only); omega), (by (try dsimp only); omega)⟩ ⟨(by (try dsimp only); omega), (by (try dsimp only); omega)⟩ (fun v g1 hp => ?_)
          obtain ⟨v1, c1, f1, rfl, hV1, hg1⟩ := hp
          rw [← ez] at hV1 hg1
          subst hg1
          refine x_sub (SB_sub (v1 := v1) (c1 := c1) (f1 := f1) hf7 hf8 hf11 hf12) ?_
          first | exact x_widen (by (try dsimp only); omega) (by (try dsimp only); omega) (ih (v1, c1, f1) hV1) | exact x_widen (by (try dsimp only); omega) (by (try dsimp only); omega) (ih (v, c, f) hV)
        have ez : aT4 α = aT3 α ++ cW 25 := by
          unfold aT4 aTf; rw [if_pos (Classical.byContradiction (fun q => h265 ((ix_lt hb5).mpr q)))]
        refine x_ldcS hC (xk_25 h0 hS) dX1_text_268 (q := 270) rfl ?_
        refine x_goto hC dX1_text_270 (tgt := 304) rfl ?_
        refine x_callV hC xv_X1_71 dX1_text_304 (q := 307) rfl rfl (m_sb_k h0 g (nt := (113, 0)) rfl rfl rfl (n_fst rfl) (n_fst rfl) (n_fst rfl) hf13 hS hK hV (by (try simp only [List.length_append, List.length_cons, List.length_nil]); omega) 25 rfl) (nn := (105, 0)) (by (repeat first | rw [xu_ne (n_fst rfl)] | rw [SB_ne (n_fst rfl) (n_fst rfl)]); exact SB_o _ _ _ _ _ _ _ _) rfl rfl (Nat.le_of_ble_eq_true rfl) ⟨(by (try dsimp only); omega), (by (try dsimp only); omega)⟩ ⟨(by (try dsimp only); omega), (by (try dsimp only); omega)⟩ (fun v g1 hp => ?_)
        obtain ⟨v, c, f, rfl, hV, hg1⟩ := hp
        rw [← ez] at hV hg1
        subst hg1
        first | exact x_widen (by (try dsimp only); omega) (by (try dsimp only); omega) (ih (v1, c1, f1) hV1) | exact x_widen (by (try dsimp only); omega) (by (try dsimp only); omega) (ih (v, c, f) hV)
      obtain ⟨v, c, f⟩ := xx
      dsimp only at hi ⊢
      have hV := hi
      clear hi
      refine x_pop hC dX1_text_307 (q := 308) rfl rfl ?_
      refine x_aloadr_n hC dX1_text_308 (q := 309) rfl rfl ?_
      refine x_ldcS hC (xk_31 h0 hS) dX1_text_309 (q := 311) rfl ?_
      refine x_callV hC xv_X1_71 dX1_text_311 (q := 314) rfl rfl (m_sb_k h0 g (nt := (113, 0)) rfl rfl rfl (n_fst rfl) (n_fst rfl) (n_fst rfl) hf13 hS hK hV (by (try simp only [List.length_append, List.length_cons, List.length_nil]); omega) 31 rfl) (nn := (105, 0)) (SB_o _ _ _ _ _ _ _ _) rfl rfl (Nat.le_of_ble_eq_true rfl) ⟨(by (try dsimp only); omega), (by (try dsimp only); omega)⟩ ⟨(by (try dsimp only); omega), (by (try dsimp only); omega)⟩ (fun v g1 hp => ?_)
      obtain ⟨v, c, f, rfl, hV, hg1⟩ := hp
      subst hg1
      refine x_aloadr_n hC dX1_text_314 (q := 315) rfl rfl ?_
      refine x_get hC xf_X1_57_0 dX1_text_315 (q := 318) rfl (n := (101, 0)) (by (repeat rw [SB_ne (n_fst rfl) (n_fst rfl)]); exact hat) rfl ?_
      refine x_callV hC xv_X1_80 dX1_text_318 (q := 321) rfl rfl (m_sb_i h0 g (nt := (113, 0)) rfl rfl rfl (n_fst rfl) (n_fst rfl) (n_fst rfl) hf13 hS hK hV (by (try simp only [List.length_append, List.length_cons, List.length_nil]); omega) (x := aI α 6) (by omega)) (nn := (105, 0)) (SB_o _ _ _ _ _ _ _ _) rfl rfl (Nat.le_of_ble_eq_true rfl) ⟨(by (try dsimp only); omega), (by (try dsimp only); omega)⟩ ⟨(by (try dsimp only); omega), (by (try dsimp only); omega)⟩ (fun v g1 hp => ?_)
      obtain ⟨v, c, f, rfl, hV, hg1⟩ := hp
      subst hg1
      refine x_ldcS hC (xk_32 h0 hS) dX1_text_321 (q := 323) rfl ?_
      refine x_callV hC xv_X1_71 dX1_text_323 (q := 326) rfl rfl (m_sb_k h0 g (nt := (113, 0)) rfl rfl rfl (n_fst rfl) (n_fst rfl) (n_fst rfl) hf13 hS hK hV (by (try simp only [List.length_append, List.length_cons, List.length_nil]); omega) 32 rfl) (nn := (105, 0)) (SB_o _ _ _ _ _ _ _ _) rfl rfl (Nat.le_of_ble_eq_true rfl) ⟨(by (try dsimp only); omega), (by (try dsimp only); omega)⟩ ⟨(by (try dsimp only); omega), (by (try dsimp only); omega)⟩ (fun v g1 hp => ?_)
      obtain ⟨v, c, f, rfl, hV, hg1⟩ := hp
      subst hg1
      refine x_aloadr_n hC dX1_text_326 (q := 327) rfl rfl ?_
      refine x_get hC xf_X1_60_0 dX1_text_327 (q := 330) rfl (n := (101, 0)) (by (repeat rw [SB_ne (n_fst rfl) (n_fst rfl)]); exact hat) rfl ?_
      refine x_callV hC xv_X1_80 dX1_text_330 (q := 333) rfl rfl (m_sb_i h0 g (nt := (113, 0)) rfl rfl rfl (n_fst rfl) (n_fst rfl) (n_fst rfl) hf13 hS hK hV (by (try simp only [List.length_append, List.length_cons, List.length_nil]); omega) (x := aI α 7) (by omega)) (nn := (105, 0)) (SB_o _ _ _ _ _ _ _ _) rfl rfl (Nat.le_of_ble_eq_true rfl) ⟨(by (try dsimp only); omega), (by (try dsimp only); omega)⟩ ⟨(by (try dsimp only); omega), (by (try dsimp only); omega)⟩ (fun v g1 hp => ?_)
      obtain ⟨v, c, f, rfl, hV, hg1⟩ := hp
      subst hg1
      refine x_ldcS hC (xk_33 h0 hS) dX1_text_333 (q := 335) rfl ?_
      refine x_callV hC xv_X1_71 dX1_text_335 (q := 338) rfl rfl (m_sb_k h0 g (nt := (113, 0)) rfl rfl rfl (n_fst rfl) (n_fst rfl) (n_fst rfl) hf13 hS hK hV (by (try simp only [List.length_append, List.length_cons, List.length_nil]); omega) 33 rfl) (nn := (105, 0)) (SB_o _ _ _ _ _ _ _ _) rfl rfl (Nat.le_of_ble_eq_true rfl) ⟨(by (try dsimp only); omega), (by (try dsimp only); omega)⟩ ⟨(by (try dsimp only); omega), (by (try dsimp only); omega)⟩ (fun v g1 hp => ?_)
      obtain ⟨v, c, f, rfl, hV, hg1⟩ := hp
      subst hg1
      refine x_aloadr_n hC dX1_text_338 (q := 339) rfl rfl ?_
      refine x_get hC xf_X1_63_0 dX1_text_339 (q := 342) rfl (n := (101, 0)) (by (repeat rw [SB_ne (n_fst rfl) (n_fst rfl)]); exact hat) rfl ?_
      refine x_callV hC xv_X1_80 dX1_text_342 (q := 345) rfl rfl (m_sb_i h0 g (nt := (113, 0)) rfl rfl rfl (n_fst rfl) (n_fst rfl) (n_fst rfl) hf13 hS hK hV (by (try simp only [List.length_append, List.length_cons, List.length_nil]); omega) (x := aI α 8) (by omega)) (nn := (105, 0)) (SB_o _ _ _ _ _ _ _ _) rfl rfl (Nat.le_of_ble_eq_true rfl) ⟨(by (try dsimp only); omega), (by (try dsimp only); omega)⟩ ⟨(by (try dsimp only); omega), (by (try dsimp only); omega)⟩ (fun v g1 hp => ?_)
      obtain ⟨v, c, f, rfl, hV, hg1⟩ := hp
      subst hg1
      refine x_bipush hC dX1_text_345 (q := 347) rfl (v := (59)) (by decide) ?_
      refine x_callV hC xv_X1_75 dX1_text_347 (q := 350) rfl rfl (m_sb_c h0 g (nt := (113, 0)) rfl rfl rfl (n_fst rfl) (n_fst rfl) (n_fst rfl) hf13 hS hK hV (by (try simp only [List.length_append, List.length_cons, List.length_nil]); omega) (x := 59) (by decide)) (nn := (105, 0)) (SB_o _ _ _ _ _ _ _ _) rfl rfl (Nat.le_of_ble_eq_true rfl) ⟨(by (try dsimp only); omega), (by (try dsimp only); omega)⟩ ⟨(by (try dsimp only); omega), (by (try dsimp only); omega)⟩ (fun v g1 hp => ?_)
      obtain ⟨v, c, f, rfl, hV, hg1⟩ := hp
      subst hg1
      refine x_callV hC xv_X1_95 dX1_text_350 (q := 353) rfl rfl (m_J5_toString h0 _ (SB_o _ _ _ _ _ _ _ _) rfl (SB_v (n_fst rfl)) hV (kv := (112, 0)) rfl (by (repeat rw [SB_ne (n_fst rfl) (n_fst rfl)]); exact hf12) (k := (111, 0)) rfl (by (repeat rw [SB_ne (n_fst rfl) (n_fst rfl)]); exact hf11) (n_fst rfl)) (nn := (105, 0)) (SB_o _ _ _ _ _ _ _ _) rfl rfl (Nat.le_of_ble_eq_true rfl) ⟨(by (try dsimp only); omega), (by (try dsimp only); omega)⟩ ⟨(by (try dsimp only); omega), (by (try dsimp only); omega)⟩ (fun v g1 hp => ?_)
      obtain ⟨sr, sd, rfl, hg1⟩ := hp
      subst hg1
      exact x_aret hC hr (Or.inl ⟨_, rfl⟩) (Or.inr ⟨_, rfl⟩) dX1_text_353 (by (try dsimp only); omega) (by (try dsimp only); omega) ⟨sr, sd, _, _, _, _, rfl, rfl⟩
    have hj2 : i < aI α 1 := Nat.lt_of_not_le (fun q => h79 (show nI (aI α 1) ≤ nI i from nI_le q (by omega)))
    refine x_aloadr_n hC dX1_text_82 (q := 83) rfl rfl ?_
    refine x_ldcS hC (xk_23 h0 hS) dX1_text_83 (q := 85) rfl ?_
    refine x_callV hC xv_X1_71 dX1_text_85 (q := 88) rfl rfl (m_sb_k h0 g (nt := (113, 0)) rfl rfl rfl (n_fst rfl) (n_fst rfl) (n_fst rfl) hf13 hS hK hV (by (try simp only [List.length_append, List.length_cons, List.length_nil]); omega) 23 rfl) (nn := (105, 0)) (SB_o _ _ _ _ _ _ _ _) rfl rfl (Nat.le_of_ble_eq_true rfl) ⟨(by (try dsimp only); omega), (by (try dsimp only); omega)⟩ ⟨(by (try dsimp only); omega), (by (try dsimp only); omega)⟩ (fun v g1 hp => ?_)
    obtain ⟨v, c, f, rfl, hV, hg1⟩ := hp
    subst hg1
    refine x_bipush hC dX1_text_88 (q := 90) rfl (v := (97)) (by decide) ?_
    refine x_iload_n hC dX1_text_90 (q := 91) rfl rfl ?_
    refine x_iadd hC dX1_text_91 (q := 92) rfl ?_
    refine x_i2c hC dX1_text_92 (q := 93) rfl ?_
    rw [i2c_k i (by omega)]
    refine x_callV hC xv_X1_75 dX1_text_93 (q := 96) rfl rfl (m_sb_c h0 g (nt := (113, 0)) rfl rfl rfl (n_fst rfl) (n_fst rfl) (n_fst rfl) hf13 hS hK hV (by (try simp only [List.length_append, List.length_cons, List.length_nil]); omega) (x := 97 + i) (by omega)) (nn := (105, 0)) (SB_o _ _ _ _ _ _ _ _) rfl rfl (Nat.le_of_ble_eq_true rfl) ⟨(by (try dsimp only); omega), (by (try dsimp only); omega)⟩ ⟨(by (try dsimp only); omega), (by (try dsimp only); omega)⟩ (fun v g1 hp => ?_)
    obtain ⟨v, c, f, rfl, hV, hg1⟩ := hp
    subst hg1
    refine x_ldcS hC (xk_24 h0 hS) dX1_text_96 (q := 98) rfl ?_
    refine x_callV hC xv_X1_71 dX1_text_98 (q := 101) rfl rfl (m_sb_k h0 g (nt := (113, 0)) rfl rfl rfl (n_fst rfl) (n_fst rfl) (n_fst rfl) hf13 hS hK hV (by (try simp only [List.length_append, List.length_cons, List.length_nil]); omega) 24 rfl) (nn := (105, 0)) (SB_o _ _ _ _ _ _ _ _) rfl rfl (Nat.le_of_ble_eq_true rfl) ⟨(by (try dsimp only); omega), (by (try dsimp only); omega)⟩ ⟨(by (try dsimp only); omega), (by (try dsimp only); omega)⟩ (fun v g1 hp => ?_)
    obtain ⟨v, c, f, rfl, hV, hg1⟩ := hp
    subst hg1
    refine x_aloadr_n hC dX1_text_101 (q := 102) rfl rfl ?_
    refine x_get hC xf_X1_16_0 dX1_text_102 (q := 105) rfl (n := (101, 0)) (by (repeat rw [SB_ne (n_fst rfl) (n_fst rfl)]); exact hat) rfl ?_
    refine x_iload_n hC dX1_text_105 (q := 106) rfl rfl ?_
    refine x_iald hC dX1_text_106 (q := 107) rfl (n := (104, 0)) (by (repeat rw [SB_ne (n_fst rfl) (n_fst rfl)]); exact har) (j := i) rfl (by omega) (by decide) ?_
    rw [aF_lt hj2]
    refine x_callV hC xv_X1_80 dX1_text_107 (q := 110) rfl rfl (m_sb_i h0 g (nt := (113, 0)) rfl rfl rfl (n_fst rfl) (n_fst rfl) (n_fst rfl) hf13 hS hK hV (by (try simp only [List.length_append, List.length_cons, List.length_nil]); omega) (x := aRo α i) (by have := hcl i; have := hgr i; have := hro i; omega)) (nn := (105, 0)) (SB_o _ _ _ _ _ _ _ _) rfl rfl (Nat.le_of_ble_eq_true rfl) ⟨(by (try dsimp only); omega), (by (try dsimp only); omega)⟩ ⟨(by (try dsimp only); omega), (by (try dsimp only); omega)⟩ (fun v g1 hp => ?_)
    obtain ⟨v, c, f, rfl, hV, hg1⟩ := hp
    subst hg1
    refine x_bipush hC dX1_text_110 (q := 112) rfl (v := (59)) (by decide) ?_
    refine x_callV hC xv_X1_75 dX1_text_112 (q := 115) rfl rfl (m_sb_c h0 g (nt := (113, 0)) rfl rfl rfl (n_fst rfl) (n_fst rfl) (n_fst rfl) hf13 hS hK hV (by (try simp only [List.length_append, List.length_cons, List.length_nil]); omega) (x := 59) (by decide)) (nn := (105, 0)) (SB_o _ _ _ _ _ _ _ _) rfl rfl (Nat.le_of_ble_eq_true rfl) ⟨(by (try dsimp only); omega), (by (try dsimp only); omega)⟩ ⟨(by (try dsimp only); omega), (by (try dsimp only); omega)⟩ (fun v g1 hp => ?_)
    obtain ⟨v, c, f, rfl, hV, hg1⟩ := hp
    subst hg1
    refine x_pop hC dX1_text_115 (q := 116) rfl rfl ?_
    refine x_iinc hC dX1_text_116 (q := 119) rfl rfl (v := nI (i + 1)) (nI_1 i) ?_
    refine x_goto hC dX1_text_119 (tgt := 74) rfl ?_
    exact x_widen (by (try dsimp only); omega) (by (try dsimp only); omega) (ih (i + 1, v, c, f) ⟨by (try dsimp only); omega, hV⟩ (by (try dsimp only); omega))
  have hj2 : i < aI α 0 := Nat.lt_of_not_le (fun q => h15 (show nI (aI α 0) ≤ nI i from nI_le q (by omega)))
  refine x_aloadr_n hC dX1_text_18 (q := 19) rfl rfl ?_
  refine x_ldcS hC (xk_20 h0 hS) dX1_text_19 (q := 21) rfl ?_
  refine x_callV hC xv_X1_71 dX1_text_21 (q := 24) rfl rfl (m_sb_k h0 g (nt := (113, 0)) rfl rfl rfl (n_fst rfl) (n_fst rfl) (n_fst rfl) hf13 hS hK hV (by (try simp only [List.length_append, List.length_cons, List.length_nil]); omega) 20 rfl) (nn := (105, 0)) (SB_o _ _ _ _ _ _ _ _) rfl rfl (Nat.le_of_ble_eq_true rfl) ⟨(by (try dsimp only); omega), (by (try dsimp only); omega)⟩ ⟨(by (try dsimp only); omega), (by (try dsimp only); omega)⟩ (fun v g1 hp => ?_)
  obtain ⟨v, c, f, rfl, hV, hg1⟩ := hp
  subst hg1
  refine x_bipush hC dX1_text_24 (q := 26) rfl (v := (97)) (by decide) ?_
  refine x_iload_n hC dX1_text_26 (q := 27) rfl rfl ?_
  refine x_iadd hC dX1_text_27 (q := 28) rfl ?_
  refine x_i2c hC dX1_text_28 (q := 29) rfl ?_
  rw [i2c_k i (by omega)]
  refine x_callV hC xv_X1_75 dX1_text_29 (q := 32) rfl rfl (m_sb_c h0 g (nt := (113, 0)) rfl rfl rfl (n_fst rfl) (n_fst rfl) (n_fst rfl) hf13 hS hK hV (by (try simp only [List.length_append, List.length_cons, List.length_nil]); omega) (x := 97 + i) (by omega)) (nn := (105, 0)) (SB_o _ _ _ _ _ _ _ _) rfl rfl (Nat.le_of_ble_eq_true rfl) ⟨(by (try dsimp only); omega), (by (try dsimp only); omega)⟩ ⟨(by (try dsimp only); omega), (by (try dsimp only); omega)⟩ (fun v g1 hp => ?_)
  obtain ⟨v, c, f, rfl, hV, hg1⟩ := hp
  subst hg1
  refine x_ldcS hC (xk_21 h0 hS) dX1_text_32 (q := 34) rfl ?_
  refine x_callV hC xv_X1_71 dX1_text_34 (q := 37) rfl rfl (m_sb_k h0 g (nt := (113, 0)) rfl rfl rfl (n_fst rfl) (n_fst rfl) (n_fst rfl) hf13 hS hK hV (by (try simp only [List.length_append, List.length_cons, List.length_nil]); omega) 21 rfl) (nn := (105, 0)) (SB_o _ _ _ _ _ _ _ _) rfl rfl (Nat.le_of_ble_eq_true rfl) ⟨(by (try dsimp only); omega), (by (try dsimp only); omega)⟩ ⟨(by (try dsimp only); omega), (by (try dsimp only); omega)⟩ (fun v g1 hp => ?_)
  obtain ⟨v, c, f, rfl, hV, hg1⟩ := hp
  subst hg1
  refine x_aloadr_n hC dX1_text_37 (q := 38) rfl rfl ?_
  refine x_get hC xf_X1_7_0 dX1_text_38 (q := 41) rfl (n := (101, 0)) (by (repeat rw [SB_ne (n_fst rfl) (n_fst rfl)]); exact hat) rfl ?_
  refine x_iload_n hC dX1_text_41 (q := 42) rfl rfl ?_
  refine x_iald hC dX1_text_42 (q := 43) rfl (n := (102, 0)) (by (repeat rw [SB_ne (n_fst rfl) (n_fst rfl)]); exact hac) (j := i) rfl (by omega) (by decide) ?_
  rw [aF_lt hj2]
  refine x_callV hC xv_X1_80 dX1_text_43 (q := 46) rfl rfl (m_sb_i h0 g (nt := (113, 0)) rfl rfl rfl (n_fst rfl) (n_fst rfl) (n_fst rfl) hf13 hS hK hV (by (try simp only [List.length_append, List.length_cons, List.length_nil]); omega) (x := aCl α i) (by have := hcl i; have := hgr i; have := hro i; omega)) (nn := (105, 0)) (SB_o _ _ _ _ _ _ _ _) rfl rfl (Nat.le_of_ble_eq_true rfl) ⟨(by (try dsimp only); omega), (by (try dsimp only); omega)⟩ ⟨(by (try dsimp only); omega), (by (try dsimp only); omega)⟩ (fun v g1 hp => ?_)
  obtain ⟨v, c, f, rfl, hV, hg1⟩ := hp
  subst hg1
  refine x_ldcS hC (xk_22 h0 hS) dX1_text_46 (q := 48) rfl ?_
  refine x_callV hC xv_X1_71 dX1_text_48 (q := 51) rfl rfl (m_sb_k h0 g (nt := (113, 0)) rfl rfl rfl (n_fst rfl) (n_fst rfl) (n_fst rfl) hf13 hS hK hV (by (try simp only [List.length_append, List.length_cons, List.length_nil]); omega) 22 rfl) (nn := (105, 0)) (SB_o _ _ _ _ _ _ _ _) rfl rfl (Nat.le_of_ble_eq_true rfl) ⟨(by (try dsimp only); omega), (by (try dsimp only); omega)⟩ ⟨(by (try dsimp only); omega), (by (try dsimp only); omega)⟩ (fun v g1 hp => ?_)
  obtain ⟨v, c, f, rfl, hV, hg1⟩ := hp
  subst hg1
  refine x_aloadr_n hC dX1_text_51 (q := 52) rfl rfl ?_
  refine x_get hC xf_X1_13_0 dX1_text_52 (q := 55) rfl (n := (101, 0)) (by (repeat rw [SB_ne (n_fst rfl) (n_fst rfl)]); exact hat) rfl ?_
  refine x_iload_n hC dX1_text_55 (q := 56) rfl rfl ?_
  refine x_iald hC dX1_text_56 (q := 57) rfl (n := (103, 0)) (by (repeat rw [SB_ne (n_fst rfl) (n_fst rfl)]); exact hag) (j := i) rfl (by omega) (by decide) ?_
  rw [aF_lt hj2]
  refine x_callV hC xv_X1_80 dX1_text_57 (q := 60) rfl rfl (m_sb_i h0 g (nt := (113, 0)) rfl rfl rfl (n_fst rfl) (n_fst rfl) (n_fst rfl) hf13 hS hK hV (by (try simp only [List.length_append, List.length_cons, List.length_nil]); omega) (x := aGr α i) (by have := hcl i; have := hgr i; have := hro i; omega)) (nn := (105, 0)) (SB_o _ _ _ _ _ _ _ _) rfl rfl (Nat.le_of_ble_eq_true rfl) ⟨(by (try dsimp only); omega), (by (try dsimp only); omega)⟩ ⟨(by (try dsimp only); omega), (by (try dsimp only); omega)⟩ (fun v g1 hp => ?_)
  obtain ⟨v, c, f, rfl, hV, hg1⟩ := hp
  subst hg1
  refine x_bipush hC dX1_text_60 (q := 62) rfl (v := (59)) (by decide) ?_
  refine x_callV hC xv_X1_75 dX1_text_62 (q := 65) rfl rfl (m_sb_c h0 g (nt := (113, 0)) rfl rfl rfl (n_fst rfl) (n_fst rfl) (n_fst rfl) hf13 hS hK hV (by (try simp only [List.length_append, List.length_cons, List.length_nil]); omega) (x := 59) (by decide)) (nn := (105, 0)) (SB_o _ _ _ _ _ _ _ _) rfl rfl (Nat.le_of_ble_eq_true rfl) ⟨(by (try dsimp only); omega), (by (try dsimp only); omega)⟩ ⟨(by (try dsimp only); omega), (by (try dsimp only); omega)⟩ (fun v g1 hp => ?_)
  obtain ⟨v, c, f, rfl, hV, hg1⟩ := hp
  subst hg1
  refine x_pop hC dX1_text_65 (q := 66) rfl rfl ?_
  refine x_iinc hC dX1_text_66 (q := 69) rfl rfl (v := nI (i + 1)) (nI_1 i) ?_
  refine x_goto hC dX1_text_69 (tgt := 10) rfl ?_
  exact x_widen (by (try dsimp only); omega) (by (try dsimp only); omega) (ih (i + 1, v, c, f) ⟨by (try dsimp only); omega, hV⟩ (by (try dsimp only); omega))
