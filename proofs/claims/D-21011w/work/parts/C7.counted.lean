/-! the class's counts -/
def cB5 (σ : KS) : Nat → Bool := fun h => !decide (iI (kI σ 34 h) = -1)
def cB6 (σ : KS) : Nat → Bool := fun h => decide (iI (kI σ 36 h) = 1)
def cB7 (σ : KS) : Nat → Bool := fun h => !decide (iI (kI σ 41 h) = -1)
theorem c5_x (x : Int32) : (if x = -1 then (0 : Int32) else 1) = if (!decide (x = -1)) then 1 else 0 := by
  by_cases h : x = -1
  · rw [if_pos h, decide_eq_true h]; rfl
  · rw [if_neg h, decide_eq_false h]; rfl
theorem c6_x {z : Int} (h : z = 0 ∨ z = 1) : (if iI z = 0 then (0 : Int32) else 1) = if decide (iI z = 1) then 1 else 0 := by
  rcases h with rfl | rfl <;> decide

theorem kNk_le {σ : KS} {q n m : Nat} (h : n ≤ m) : kNk σ q n ≤ m := by
  refine Nat.le_trans ?_ h
  clear h
  induction n with
  | zero => exact Nat.le_refl 0
  | succ n ih =>
    show kNk σ q n + (if kO σ 0 n 0 = some q then 1 else 0) ≤ n + 1
    split <;> omega

set_option maxHeartbeats 4000000 in
set_option maxRecDepth 100000 in
theorem m_X0_isCounted {l : Launch} {s0 : State} {D : va_G} (h0 : x0 l s0 D) (σ : KS) (gF : xG) (f : aEnv) {aa : Nat} {α : aA} (hA : AH gF aa α) (hok : aOk α) (hw : KW σ) (hpP : KPl σ) (hnb : KNb σ) (hl : LT σ α) (hF : kF gF σ (aFo α)) (hwk : 0 ≤ kI σ 3 0 ∧ kI σ 3 0 ≤ 100000) : xMet l s0 D yX0_isCounted cX0_isCounted 10 (some .boolean) (xr 38 0 0 3200) [.ref (kA σ 0 0), .ref aa] (kmix (kT σ f) gF) (fun r g1 => r = some (.int 1) ∧ ∃ f1, g1 = kmix (kT σ f1) gF) := by
  obtain ⟨ca, ga, ra, hat, hac, hag, har⟩ := id hA
  obtain ⟨hb0, hb1, hb2, hb3, hb4, hb5, hb6, hb7, hb8, hcl, hgr, hro⟩ := id hok
  refine xMet.of h0 (by decide +kernel) rfl ?_
  intro zp ze zs zm za zb zf zc hC hr hnm
  refine x_iconst hC dX0_isCounted_0 (q := 1) rfl (v := (0)) (by decide) ?_
  refine x_istore_n hC dX0_isCounted_1 (q := 2) rfl rfl ?_
  refine x_iconst hC dX0_isCounted_2 (q := 3) rfl (v := (0)) (by decide) ?_
  refine x_istore_n hC dX0_isCounted_3 (q := 4) rfl rfl ?_
  refine x_iconst hC dX0_isCounted_4 (q := 5) rfl (v := (0)) (by decide) ?_
  refine x_istore hC dX0_isCounted_5 (q := 7) rfl rfl ?_
  refine x_iconst hC dX0_isCounted_7 (q := 8) rfl (v := (0)) (by decide) ?_
  refine x_istore hC dX0_isCounted_8 (q := 10) rfl rfl ?_
  refine x_iconst hC dX0_isCounted_10 (q := 11) rfl (v := (0)) (by decide) ?_
  refine x_istore hC dX0_isCounted_11 (q := 13) rfl rfl ?_
  refine x_loop (S := (fun x : Nat × aEnv × Option Value × Option Value × Option Value => ((0 : Nat), (0 : Nat), kmix (kT σ x.2.1) gF, ([some (.ref (kA σ 0 0)), some (.ref aa), some (.int 0), some (.int 0), some (.int (nI (kCn (cB7 σ) x.1))), some (.int (nI (kNa σ (aI α 0) x.1))), some (.int (nI x.1)), x.2.2.1, x.2.2.2.1, x.2.2.2.2] : xL), ([] : List Value)))) (Inv := fun x => x.1 ≤ aI α 1) (μ := fun x => aI α 1 - x.1) ?_ (0, f, none, none, none) (Nat.zero_le _)
  intro x hi ih
  obtain ⟨q, f1, y7, y8, y9⟩ := x
  dsimp only at hi ih ⊢
  refine x_iload hC dX0_isCounted_13 (q := 15) rfl rfl ?_
  refine x_aloadr_n hC dX0_isCounted_15 (q := 16) rfl rfl ?_
  refine x_get hC xf_X0_54_0 dX0_isCounted_16 (q := 19) rfl (n := (101, 0)) ((kmix_F _ _ _ rfl).trans hat) rfl ?_
  refine x_icmp_ge hC dX0_isCounted_19 (q := 22) rfl (tgt := 150) rfl (fun h19 => ?_) (fun h19 => ?_)
  · have hq1 : q = aI α 1 := by
      have := (nI_leI (a := aI α 1) (b := q) (by omega) (by omega)).mp h19
      omega
    subst hq1
    refine x_iconst hC dX0_isCounted_150 (q := 151) rfl (v := (0)) (by decide) ?_
    refine x_istore hC dX0_isCounted_151 (q := 153) rfl rfl ?_
    refine x_loop (S := (fun x : Nat => ((0 : Nat), (0 : Nat), kmix (kT σ f1) gF, ([some (.ref (kA σ 0 0)), some (.ref aa), some (.int (nI (kCn (cB5 σ) x))), some (.int (nI (kCn (cB6 σ) x))), some (.int (nI (kCn (cB7 σ) (aI α 1)))), some (.int (nI (kNa σ (aI α 0) (aI α 1)))), some (.int (nI x)), y7, y8, y9] : xL), ([] : List Value)))) (Inv := fun x => x ≤ aI α 0) (μ := fun x => aI α 0 - x) ?_ 0 (Nat.zero_le _)
    intro c hi3 ih3
    dsimp only at hi3 ih3 ⊢
    refine x_iload hC dX0_isCounted_153 (q := 155) rfl rfl ?_
    refine x_aloadr_n hC dX0_isCounted_155 (q := 156) rfl rfl ?_
    refine x_get hC xf_X0_60_0 dX0_isCounted_156 (q := 159) rfl (n := (101, 0)) ((kmix_F _ _ _ rfl).trans hat) rfl ?_
    refine x_icmp_ge hC dX0_isCounted_159 (q := 162) rfl (tgt := 217) rfl (fun h159 => ?_) (fun h159 => ?_)
    · have hc1 : c = aI α 0 := by
        have := (nI_leI (a := aI α 0) (b := c) (by omega) (by omega)).mp h159
        omega
      subst hc1
      refine x_aloadr_n hC dX0_isCounted_217 (q := 218) rfl rfl ?_
      refine x_iconst hC dX0_isCounted_218 (q := 219) rfl (v := (4)) (by decide) ?_
      refine x_callV hC xv_X0_73 dX0_isCounted_219 (q := 222) rfl rfl (m_X2_has_4 h0 (kT σ f1) gF hw) (nn := (0, 0)) rfl rfl rfl (Nat.le_of_ble_eq_true rfl) ⟨(Nat.le_of_ble_eq_true rfl), (Nat.le_of_ble_eq_true rfl)⟩ ⟨(Nat.le_of_ble_eq_true rfl), (Nat.le_of_ble_eq_true rfl)⟩ (fun v g1 hp => ?_)
      rw [show kCn (fun h => (kO (kT σ f1) 0 h 0).isSome) (kA (kT σ f1) 61 0) = kNa σ (aI α 0) (aI α 1) from (by rw [← hl.1, ← hl.2.1]; exact (kNa_n hpP).symm)] at hp
      obtain ⟨rfl, hg1⟩ := hp
      replace hg1 := hg1.symm
      subst hg1
      refine x_iload hC dX0_isCounted_222 (q := 224) rfl rfl ?_
      refine x_icmp_ne hC dX0_isCounted_224 (q := 227) rfl (tgt := 261) rfl (fun h224 => ?_) (fun h224 => ?_)
      · exact absurd rfl h224
      refine x_aloadr_n hC dX0_isCounted_227 (q := 228) rfl rfl ?_
      refine x_iconst hC dX0_isCounted_228 (q := 229) rfl (v := (5)) (by decide) ?_
      refine x_callV hC xv_X0_73 dX0_isCounted_229 (q := 232) rfl rfl (m_X2_has_5 h0 (kT σ f1) gF hw) (nn := (0, 0)) rfl rfl rfl (Nat.le_of_ble_eq_true rfl) ⟨(Nat.le_of_ble_eq_true rfl), (Nat.le_of_ble_eq_true rfl)⟩ ⟨(Nat.le_of_ble_eq_true rfl), (Nat.le_of_ble_eq_true rfl)⟩ (fun v g1 hp => ?_)
      rw [show kA (kT σ f1) 61 0 = aI α 0 from hl.1] at hp
      obtain ⟨rfl, hg1⟩ := hp
      replace hg1 := hg1.symm
      subst hg1
      refine x_iload_n hC dX0_isCounted_232 (q := 233) rfl rfl ?_
      refine x_icmp_ne hC dX0_isCounted_233 (q := 236) rfl (tgt := 261) rfl (fun h233 => ?_) (fun h233 => ?_)
      · exact absurd rfl h233
      refine x_aloadr_n hC dX0_isCounted_236 (q := 237) rfl rfl ?_
      refine x_bipush hC dX0_isCounted_237 (q := 239) rfl (v := (6)) (by decide) ?_
      refine x_callV hC xv_X0_73 dX0_isCounted_239 (q := 242) rfl rfl (m_X2_has_6 h0 (kT σ f1) gF hw (fun h hh => by
          rcases (hnb.1 h hh).2.2 with e | e
          · exact Or.inl (by show iI (kI σ 36 h) = 0; rw [e]; rfl)
          · exact Or.inr (by show iI (kI σ 36 h) = 1; rw [e]; rfl))) (nn := (0, 0)) rfl rfl rfl (Nat.le_of_ble_eq_true rfl) ⟨(Nat.le_of_ble_eq_true rfl), (Nat.le_of_ble_eq_true rfl)⟩ ⟨(Nat.le_of_ble_eq_true rfl), (Nat.le_of_ble_eq_true rfl)⟩ (fun v g1 hp => ?_)
      rw [show kA (kT σ f1) 61 0 = aI α 0 from hl.1] at hp
      obtain ⟨rfl, hg1⟩ := hp
      replace hg1 := hg1.symm
      subst hg1
      refine x_iload_n hC dX0_isCounted_242 (q := 243) rfl rfl ?_
      refine x_icmp_ne hC dX0_isCounted_243 (q := 246) rfl (tgt := 261) rfl (fun h243 => ?_) (fun h243 => ?_)
      · exact absurd rfl h243
      refine x_aloadr_n hC dX0_isCounted_246 (q := 247) rfl rfl ?_
      refine x_bipush hC dX0_isCounted_247 (q := 249) rfl (v := (7)) (by decide) ?_
      refine x_callV hC xv_X0_73 dX0_isCounted_249 (q := 252) rfl rfl (m_X2_has_7 h0 (kT σ f1) gF hw) (nn := (0, 0)) rfl rfl rfl (Nat.le_of_ble_eq_true rfl) ⟨(Nat.le_of_ble_eq_true rfl), (Nat.le_of_ble_eq_true rfl)⟩ ⟨(Nat.le_of_ble_eq_true rfl), (Nat.le_of_ble_eq_true rfl)⟩ (fun v g1 hp => ?_)
      rw [show kA (kT σ f1) 62 0 = aI α 1 from hl.2.1] at hp
      obtain ⟨rfl, hg1⟩ := hp
      replace hg1 := hg1.symm
      subst hg1
      refine x_iload hC dX0_isCounted_252 (q := 254) rfl rfl ?_
      refine x_icmp_ne hC dX0_isCounted_254 (q := 257) rfl (tgt := 261) rfl (fun h254 => ?_) (fun h254 => ?_)
      · exact absurd rfl h254
      refine x_iconst hC dX0_isCounted_257 (q := 258) rfl (v := (1)) (by decide) ?_
      refine x_goto hC dX0_isCounted_258 (tgt := 262) rfl ?_
      exact x_zret hC hr rfl dX0_isCounted_262 (Nat.le_of_ble_eq_true rfl) (Nat.le_of_ble_eq_true rfl) ⟨rfl, _, rfl⟩
    have hc1 : c < aI α 0 := Nat.not_le.mp (fun w => h159 (nI_le w (by omega)))
    have h34 := hnb.1 c (by rw [hl.1]; exact hc1)
    refine x_iload_n hC dX0_isCounted_162 (q := 163) rfl rfl ?_
    refine x_aloadr_n hC dX0_isCounted_163 (q := 164) rfl rfl ?_
    refine x_iload hC dX0_isCounted_164 (q := 166) rfl rfl ?_
    refine x_iconst hC dX0_isCounted_166 (q := 167) rfl (v := (4)) (by decide) ?_
    refine x_callV hC xv_X0_63 dX0_isCounted_167 (q := 170) rfl rfl (m_X2_child_4 h0 (kT σ f1) gF hw c (by show c < kA σ 61 0; rw [hl.1]; exact hc1)) (nn := (0, 0)) rfl rfl rfl (Nat.le_of_ble_eq_true rfl) ⟨(Nat.le_of_ble_eq_true rfl), (Nat.le_of_ble_eq_true rfl)⟩ ⟨(Nat.le_of_ble_eq_true rfl), (Nat.le_of_ble_eq_true rfl)⟩ (fun v g1 hp => ?_)
    obtain ⟨rfl, hg1⟩ := hp
    replace hg1 := hg1.symm
    subst hg1
    refine x_iadd hC dX0_isCounted_170 (q := 171) rfl ?_
    rw [show nI (kCn (cB5 σ) c) + (if iI (kI (kT σ f1) 34 c) = -1 then 0 else 1) = nI (kCn (cB5 σ) (c + 1)) from nI_t (c5_x (iI (kI σ 34 c))) (cB5 σ) rfl]
    refine x_istore_n hC dX0_isCounted_171 (q := 172) rfl rfl ?_
    refine x_iload_n hC dX0_isCounted_172 (q := 173) rfl rfl ?_
    refine x_aloadr_n hC dX0_isCounted_173 (q := 174) rfl rfl ?_
    refine x_iload hC dX0_isCounted_174 (q := 176) rfl rfl ?_
    refine x_bipush hC dX0_isCounted_176 (q := 178) rfl (v := (6)) (by decide) ?_
    refine x_callV hC xv_X0_63 dX0_isCounted_178 (q := 181) rfl rfl (m_X2_child_6 h0 (kT σ f1) gF hw c (by show c < kA σ 61 0; rw [hl.1]; exact hc1)) (nn := (0, 0)) rfl rfl rfl (Nat.le_of_ble_eq_true rfl) ⟨(Nat.le_of_ble_eq_true rfl), (Nat.le_of_ble_eq_true rfl)⟩ ⟨(Nat.le_of_ble_eq_true rfl), (Nat.le_of_ble_eq_true rfl)⟩ (fun v g1 hp => ?_)
    obtain ⟨rfl, hg1⟩ := hp
    replace hg1 := hg1.symm
    subst hg1
    refine x_iadd hC dX0_isCounted_181 (q := 182) rfl ?_
    rw [show nI (kCn (cB6 σ) c) + (if iI (kI (kT σ f1) 36 c) = 0 then 0 else 1) = nI (kCn (cB6 σ) (c + 1)) from nI_t (c6_x h34.2.2) (cB6 σ) rfl]
    refine x_istore_n hC dX0_isCounted_182 (q := 183) rfl rfl ?_
    refine x_aloadr_n hC dX0_isCounted_183 (q := 184) rfl rfl ?_
    refine x_iload hC dX0_isCounted_184 (q := 186) rfl rfl ?_
    refine x_iconst hC dX0_isCounted_186 (q := 187) rfl (v := (4)) (by decide) ?_
    refine x_callV hC xv_X0_63 dX0_isCounted_187 (q := 190) rfl rfl (m_X2_child_4 h0 (kT σ f1) gF hw c (by show c < kA σ 61 0; rw [hl.1]; exact hc1)) (nn := (0, 0)) rfl rfl rfl (Nat.le_of_ble_eq_true rfl) ⟨(Nat.le_of_ble_eq_true rfl), (Nat.le_of_ble_eq_true rfl)⟩ ⟨(Nat.le_of_ble_eq_true rfl), (Nat.le_of_ble_eq_true rfl)⟩ (fun v g1 hp => ?_)
    obtain ⟨rfl, hg1⟩ := hp
    replace hg1 := hg1.symm
    subst hg1
    refine x_aloadr_n hC dX0_isCounted_190 (q := 191) rfl rfl ?_
    refine x_iload hC dX0_isCounted_191 (q := 193) rfl rfl ?_
    refine x_iconst hC dX0_isCounted_193 (q := 194) rfl (v := (5)) (by decide) ?_
    refine x_callV hC xv_X0_63 dX0_isCounted_194 (q := 197) rfl rfl (m_X2_child_5 h0 (kT σ f1) gF hw c (by show c < kA σ 61 0; rw [hl.1]; exact hc1)) (nn := (0, 0)) rfl rfl rfl (Nat.le_of_ble_eq_true rfl) ⟨(Nat.le_of_ble_eq_true rfl), (Nat.le_of_ble_eq_true rfl)⟩ ⟨(Nat.le_of_ble_eq_true rfl), (Nat.le_of_ble_eq_true rfl)⟩ (fun v g1 hp => ?_)
    obtain ⟨rfl, hg1⟩ := hp
    replace hg1 := hg1.symm
    subst hg1
    refine x_iconst hC dX0_isCounted_197 (q := 198) rfl (v := (-1)) (by decide) ?_
    refine x_icmp_ne hC dX0_isCounted_198 (q := 201) rfl (tgt := 205) rfl (fun h198 => ?_) (fun h198 => ?_)
    · have h198x : (if iI (kI σ 34 c) = -1 then (0 : Int32) else 1) = 1 := if_neg h198
      refine x_iconst hC dX0_isCounted_205 (q := 206) rfl (v := (1)) (by decide) ?_
      refine x_icmp_eq hC dX0_isCounted_206 (q := 209) rfl (tgt := 211) rfl (fun h206 => ?_) (fun h206 => ?_)
      · refine x_iinc hC dX0_isCounted_211 (q := 214) rfl rfl (v := nI (c + 1)) (nI_1 c) ?_
        refine x_goto hC dX0_isCounted_214 (tgt := 153) rfl ?_
        exact ih3 (c + 1) (by (try dsimp only); omega) (by (try dsimp only); omega)
      · exact absurd h198x h206
    have h198x : (if iI (kI σ 34 c) = -1 then (0 : Int32) else 1) = 0 := if_pos h198
    refine x_iconst hC dX0_isCounted_201 (q := 202) rfl (v := (0)) (by decide) ?_
    refine x_goto hC dX0_isCounted_202 (tgt := 206) rfl ?_
    refine x_icmp_eq hC dX0_isCounted_206 (q := 209) rfl (tgt := 211) rfl (fun h206 => ?_) (fun h206 => ?_)
    · refine x_iinc hC dX0_isCounted_211 (q := 214) rfl rfl (v := nI (c + 1)) (nI_1 c) ?_
      refine x_goto hC dX0_isCounted_214 (tgt := 153) rfl ?_
      exact ih3 (c + 1) (by (try dsimp only); omega) (by (try dsimp only); omega)
    · exact absurd h198x h206
  have hq1 : q < aI α 1 := Nat.not_le.mp (fun w => h19 (nI_le w (by omega)))
  have h41 := hnb.2 q (by rw [hl.2.1]; exact hq1)
  refine x_aloadr_n hC dX0_isCounted_22 (q := 23) rfl rfl ?_
  refine x_iload hC dX0_isCounted_23 (q := 25) rfl rfl ?_
  refine x_iconst hC dX0_isCounted_25 (q := 26) rfl (v := (2)) (by decide) ?_
  refine x_callV hC xv_X0_80 dX0_isCounted_26 (q := 29) rfl rfl (m_X2_kiln_2 h0 (kT σ f1) gF hw q (by show q < kA σ 62 0; rw [hl.2.1]; exact hq1)) (nn := (0, 0)) rfl rfl rfl (Nat.le_of_ble_eq_true rfl) ⟨(Nat.le_of_ble_eq_true rfl), (Nat.le_of_ble_eq_true rfl)⟩ ⟨(Nat.le_of_ble_eq_true rfl), (Nat.le_of_ble_eq_true rfl)⟩ (fun v g1 hp => ?_)
  obtain ⟨rfl, hg1⟩ := hp
  replace hg1 := hg1.symm
  subst hg1
  refine x_istore hC dX0_isCounted_29 (q := 31) rfl rfl ?_
  refine x_iconst hC dX0_isCounted_31 (q := 32) rfl (v := (0)) (by decide) ?_
  refine x_istore hC dX0_isCounted_32 (q := 34) rfl rfl ?_
  refine x_iconst hC dX0_isCounted_34 (q := 35) rfl (v := (0)) (by decide) ?_
  refine x_istore hC dX0_isCounted_35 (q := 37) rfl rfl ?_
  refine x_loop (S := (fun x : Nat => ((0 : Nat), (0 : Nat), kmix (kT σ f1) gF, ([some (.ref (kA σ 0 0)), some (.ref aa), some (.int 0), some (.int 0), some (.int (nI (kCn (cB7 σ) q))), some (.int (nI (kNa σ (aI α 0) q))), some (.int (nI q)), some (.int (iI (kI σ 41 q))), some (.int (nI (kNk σ q x))), some (.int (nI x))] : xL), ([] : List Value)))) (Inv := fun x => x ≤ aI α 0) (μ := fun x => aI α 0 - x) ?_ 0 (Nat.zero_le _)
  intro c hi3 ih3
  dsimp only at hi3 ih3 ⊢
  refine x_iload hC dX0_isCounted_37 (q := 39) rfl rfl ?_
  refine x_aloadr_n hC dX0_isCounted_39 (q := 40) rfl rfl ?_
  refine x_get hC xf_X0_60_0 dX0_isCounted_40 (q := 43) rfl (n := (101, 0)) ((kmix_F _ _ _ rfl).trans hat) rfl ?_
  refine x_icmp_ge hC dX0_isCounted_43 (q := 46) rfl (tgt := 74) rfl (fun h43 => ?_) (fun h43 => ?_)
  · have hc1 : c = aI α 0 := by
      have := (nI_leI (a := aI α 0) (b := c) (by omega) (by omega)).mp h43
      omega
    subst hc1
    refine x_iload hC dX0_isCounted_74 (q := 76) rfl rfl ?_
    refine x_iload hC dX0_isCounted_76 (q := 78) rfl rfl ?_
    refine x_if_lt hC dX0_isCounted_78 (q := 81) rfl (tgt := 85) rfl (fun h78 => ?_) (fun h78 => ?_)
    · have h41x : kI σ 41 q = -1 := by
        have := (iI_lt (b := 0) ⟨by omega, by omega⟩ ⟨by decide, by decide⟩).mp h78
        omega
      have hlit : nI (kCn (cB7 σ) q) + 0 = nI (kCn (cB7 σ) (q + 1)) := nI_t (b := false) rfl (cB7 σ) (by unfold cB7; rw [h41x]; decide)
      refine x_iconst hC dX0_isCounted_85 (q := 86) rfl (v := (0)) (by decide) ?_
      refine x_iadd hC dX0_isCounted_86 (q := 87) rfl ?_
      refine x_istore hC dX0_isCounted_87 (q := 89) rfl rfl ?_
      refine x_iload hC dX0_isCounted_89 (q := 91) rfl rfl ?_
      refine x_iload hC dX0_isCounted_91 (q := 93) rfl rfl ?_
      refine x_iadd hC dX0_isCounted_93 (q := 94) rfl ?_
      refine x_istore hC dX0_isCounted_94 (q := 96) rfl rfl ?_
      refine x_aloadr_n hC dX0_isCounted_96 (q := 97) rfl rfl ?_
      refine x_iload hC dX0_isCounted_97 (q := 99) rfl rfl ?_
      refine x_iconst hC dX0_isCounted_99 (q := 100) rfl (v := (1)) (by decide) ?_
      refine x_callV hC xv_X0_80 dX0_isCounted_100 (q := 103) rfl rfl (m_X2_kiln_1 h0 (kT σ f1) gF hw q (by show q < kA σ 62 0; rw [hl.2.1]; exact hq1)) (nn := (0, 0)) rfl rfl rfl (Nat.le_of_ble_eq_true rfl) ⟨(Nat.le_of_ble_eq_true rfl), (Nat.le_of_ble_eq_true rfl)⟩ ⟨(Nat.le_of_ble_eq_true rfl), (Nat.le_of_ble_eq_true rfl)⟩ (fun v g1 hp => ?_)
      rw [show kFull (kT σ f1) q = kNk σ q (aI α 0) from (kFull_n hpP q).trans (by rw [hl.1])] at hp
      obtain ⟨rfl, hg1⟩ := hp
      replace hg1 := hg1.symm
      subst hg1
      refine x_iload hC dX0_isCounted_103 (q := 105) rfl rfl ?_
      refine x_icmp_ne hC dX0_isCounted_105 (q := 108) rfl (tgt := 142) rfl (fun h105 => ?_) (fun h105 => ?_)
      · exact absurd rfl h105
      refine x_aloadr_n hC dX0_isCounted_108 (q := 109) rfl rfl ?_
      refine x_iload hC dX0_isCounted_109 (q := 111) rfl rfl ?_
      refine x_iconst hC dX0_isCounted_111 (q := 112) rfl (v := (3)) (by decide) ?_
      refine x_callV hC xv_X0_80 dX0_isCounted_112 (q := 115) rfl rfl (m_X2_kiln_3 h0 σ gF f1 hF hw q (by show q < kA σ 62 0; rw [hl.2.1]; exact hq1)) (nn := (0, 0)) rfl rfl rfl (Nat.le_of_ble_eq_true rfl) ⟨(Nat.le_of_ble_eq_true rfl), (Nat.le_of_ble_eq_true rfl)⟩ ⟨(Nat.le_of_ble_eq_true rfl), (Nat.le_of_ble_eq_true rfl)⟩ (fun v g1 hp => ?_)
      obtain ⟨f2, rfl, hg1⟩ := hp
      subst hg1
      refine x_iload hC dX0_isCounted_115 (q := 117) rfl rfl ?_
      refine x_if_ge hC dX0_isCounted_117 (q := 120) rfl (tgt := 124) rfl (fun h117 => ?_) (fun h117 => ?_)
      · have h41z : 0 ≤ kI σ 41 q := (iI_le (a := 0) ⟨by decide, by decide⟩ ⟨by omega, by omega⟩).mp h117
        have hne1 : ¬ iI (kI σ 41 q) = -1 := fun w => absurd ((iI_eq (b := -1) ⟨by omega, by omega⟩ ⟨by decide, by decide⟩).mp w) (by omega)
        rw [if_neg (show ¬ iI (kI σ 41 q) = -1 from hne1)]
        refine x_aloadr_n hC dX0_isCounted_124 (q := 125) rfl rfl ?_
        refine x_iload hC dX0_isCounted_125 (q := 127) rfl rfl ?_
        refine x_iload hC dX0_isCounted_127 (q := 129) rfl rfl ?_
        refine x_iload hC dX0_isCounted_129 (q := 131) rfl rfl ?_
        refine x_aloadr_n hC dX0_isCounted_131 (q := 132) rfl rfl ?_
        refine x_iconst hC dX0_isCounted_132 (q := 133) rfl (v := (2)) (by decide) ?_
        refine x_callV hC xv_X0_73 dX0_isCounted_133 (q := 136) rfl rfl (m_X2_has_2 h0 _ gF) (nn := (0, 0)) rfl rfl rfl (Nat.le_of_ble_eq_true rfl) ⟨(Nat.le_of_ble_eq_true rfl), (Nat.le_of_ble_eq_true rfl)⟩ ⟨(Nat.le_of_ble_eq_true rfl), (Nat.le_of_ble_eq_true rfl)⟩ (fun v g1 hp => ?_)
        obtain ⟨rfl, hg1⟩ := hp
        replace hg1 := hg1.symm
        subst hg1
        refine x_callV hC xv_X0_93 dX0_isCounted_136 (q := 139) rfl rfl (m_X1_burns h0 _ (hA.km _) hok (k := q) (h := kI σ 41 q) (f := ((kNk σ q (aI α 0) : Nat) : Int)) (w := kI σ 3 0) hq1 ⟨by omega, by omega⟩ ⟨by omega, by omega⟩) (nn := (101, 0)) ((kmix_F _ _ _ rfl).trans hat) rfl rfl (Nat.le_of_ble_eq_true rfl) ⟨(Nat.le_of_ble_eq_true rfl), (Nat.le_of_ble_eq_true rfl)⟩ ⟨(Nat.le_of_ble_eq_true rfl), (Nat.le_of_ble_eq_true rfl)⟩ (fun v g1 hp => ?_)
        obtain ⟨rfl, hg1⟩ := hp
        replace hg1 := hg1.symm
        subst hg1
        refine x_icmp_eq hC dX0_isCounted_139 (q := 142) rfl (tgt := 144) rfl (fun h139 => ?_) (fun h139 => ?_)
        · refine x_iinc hC dX0_isCounted_144 (q := 147) rfl rfl (v := nI (q + 1)) (nI_1 q) ?_
          refine x_goto hC dX0_isCounted_147 (tgt := 13) rfl ?_
          refine x_lveq (lv' := [some (.ref (kA σ 0 0)), some (.ref aa), some (.int 0), some (.int 0), some (.int (nI (kCn (cB7 σ) (q + 1)))), some (.int (nI (kNa σ (aI α 0) (q + 1)))), some (.int (nI (q + 1))), _, _, _]) (by first | (rw [← hlit, show nI (kNa σ (aI α 0) (q + 1)) = nI (kNa σ (aI α 0) q) + nI (kNk σ q (aI α 0)) from (nI_add _ _).symm]; rfl)) ?_
          exact ih (q + 1, _, _, _, _) (by (try dsimp only); omega) (by (try dsimp only); omega)
        · first | exact absurd rfl h139 | exact absurd ((aBrn hok hl hq1 ⟨h41z, h41.2⟩ hwk (by rw [kFull_n hpP, hl.1]; exact kNk_le hb0)).trans (by rw [kFull_n hpP, hl.1])) h139
      have h41z : kI σ 41 q = -1 := by
        have := mt (iI_le (a := 0) (b := kI σ 41 q) ⟨by decide, by decide⟩ ⟨by omega, by omega⟩).mpr h117
        omega
      rw [if_pos (show iI (kI σ 41 q) = -1 by rw [h41z]; rfl)]
      refine x_iconst hC dX0_isCounted_120 (q := 121) rfl (v := (-1)) (by decide) ?_
      refine x_goto hC dX0_isCounted_121 (tgt := 139) rfl ?_
      refine x_icmp_eq hC dX0_isCounted_139 (q := 142) rfl (tgt := 144) rfl (fun h139 => ?_) (fun h139 => ?_)
      · refine x_iinc hC dX0_isCounted_144 (q := 147) rfl rfl (v := nI (q + 1)) (nI_1 q) ?_
        refine x_goto hC dX0_isCounted_147 (tgt := 13) rfl ?_
        refine x_lveq (lv' := [some (.ref (kA σ 0 0)), some (.ref aa), some (.int 0), some (.int 0), some (.int (nI (kCn (cB7 σ) (q + 1)))), some (.int (nI (kNa σ (aI α 0) (q + 1)))), some (.int (nI (q + 1))), _, _, _]) (by first | (rw [← hlit, show nI (kNa σ (aI α 0) (q + 1)) = nI (kNa σ (aI α 0) q) + nI (kNk σ q (aI α 0)) from (nI_add _ _).symm]; rfl)) ?_
        exact ih (q + 1, _, _, _, _) (by (try dsimp only); omega) (by (try dsimp only); omega)
      · first | exact absurd rfl h139 | exact absurd ((aBrn hok hl hq1 ⟨h41z, h41.2⟩ hwk (by rw [kFull_n hpP, hl.1]; exact kNk_le hb0)).trans (by rw [kFull_n hpP, hl.1])) h139
    have h41y : 0 ≤ kI σ 41 q := Int.not_lt.mp (fun w => h78 ((iI_lt (b := 0) ⟨by omega, by omega⟩ ⟨by decide, by decide⟩).mpr w))
    have hne : ¬ iI (kI σ 41 q) = -1 := fun w => absurd ((iI_eq (b := -1) ⟨by omega, by omega⟩ ⟨by decide, by decide⟩).mp w) (by omega)
    have hlit : nI (kCn (cB7 σ) q) + 1 = nI (kCn (cB7 σ) (q + 1)) := nI_t (b := true) rfl (cB7 σ) (by unfold cB7; rw [decide_eq_false hne]; rfl)
    refine x_iconst hC dX0_isCounted_81 (q := 82) rfl (v := (1)) (by decide) ?_
    refine x_goto hC dX0_isCounted_82 (tgt := 86) rfl ?_
    refine x_iadd hC dX0_isCounted_86 (q := 87) rfl ?_
    refine x_istore hC dX0_isCounted_87 (q := 89) rfl rfl ?_
    refine x_iload hC dX0_isCounted_89 (q := 91) rfl rfl ?_
    refine x_iload hC dX0_isCounted_91 (q := 93) rfl rfl ?_
    refine x_iadd hC dX0_isCounted_93 (q := 94) rfl ?_
    refine x_istore hC dX0_isCounted_94 (q := 96) rfl rfl ?_
    refine x_aloadr_n hC dX0_isCounted_96 (q := 97) rfl rfl ?_
    refine x_iload hC dX0_isCounted_97 (q := 99) rfl rfl ?_
    refine x_iconst hC dX0_isCounted_99 (q := 100) rfl (v := (1)) (by decide) ?_
    refine x_callV hC xv_X0_80 dX0_isCounted_100 (q := 103) rfl rfl (m_X2_kiln_1 h0 (kT σ f1) gF hw q (by show q < kA σ 62 0; rw [hl.2.1]; exact hq1)) (nn := (0, 0)) rfl rfl rfl (Nat.le_of_ble_eq_true rfl) ⟨(Nat.le_of_ble_eq_true rfl), (Nat.le_of_ble_eq_true rfl)⟩ ⟨(Nat.le_of_ble_eq_true rfl), (Nat.le_of_ble_eq_true rfl)⟩ (fun v g1 hp => ?_)
    rw [show kFull (kT σ f1) q = kNk σ q (aI α 0) from (kFull_n hpP q).trans (by rw [hl.1])] at hp
    obtain ⟨rfl, hg1⟩ := hp
    replace hg1 := hg1.symm
    subst hg1
    refine x_iload hC dX0_isCounted_103 (q := 105) rfl rfl ?_
    refine x_icmp_ne hC dX0_isCounted_105 (q := 108) rfl (tgt := 142) rfl (fun h105 => ?_) (fun h105 => ?_)
    · exact absurd rfl h105
    refine x_aloadr_n hC dX0_isCounted_108 (q := 109) rfl rfl ?_
    refine x_iload hC dX0_isCounted_109 (q := 111) rfl rfl ?_
    refine x_iconst hC dX0_isCounted_111 (q := 112) rfl (v := (3)) (by decide) ?_
    refine x_callV hC xv_X0_80 dX0_isCounted_112 (q := 115) rfl rfl (m_X2_kiln_3 h0 σ gF f1 hF hw q (by show q < kA σ 62 0; rw [hl.2.1]; exact hq1)) (nn := (0, 0)) rfl rfl rfl (Nat.le_of_ble_eq_true rfl) ⟨(Nat.le_of_ble_eq_true rfl), (Nat.le_of_ble_eq_true rfl)⟩ ⟨(Nat.le_of_ble_eq_true rfl), (Nat.le_of_ble_eq_true rfl)⟩ (fun v g1 hp => ?_)
    obtain ⟨f2, rfl, hg1⟩ := hp
    subst hg1
    refine x_iload hC dX0_isCounted_115 (q := 117) rfl rfl ?_
    refine x_if_ge hC dX0_isCounted_117 (q := 120) rfl (tgt := 124) rfl (fun h117 => ?_) (fun h117 => ?_)
    · have h41z : 0 ≤ kI σ 41 q := (iI_le (a := 0) ⟨by decide, by decide⟩ ⟨by omega, by omega⟩).mp h117
      have hne1 : ¬ iI (kI σ 41 q) = -1 := fun w => absurd ((iI_eq (b := -1) ⟨by omega, by omega⟩ ⟨by decide, by decide⟩).mp w) (by omega)
      rw [if_neg (show ¬ iI (kI σ 41 q) = -1 from hne1)]
      refine x_aloadr_n hC dX0_isCounted_124 (q := 125) rfl rfl ?_
      refine x_iload hC dX0_isCounted_125 (q := 127) rfl rfl ?_
      refine x_iload hC dX0_isCounted_127 (q := 129) rfl rfl ?_
      refine x_iload hC dX0_isCounted_129 (q := 131) rfl rfl ?_
      refine x_aloadr_n hC dX0_isCounted_131 (q := 132) rfl rfl ?_
      refine x_iconst hC dX0_isCounted_132 (q := 133) rfl (v := (2)) (by decide) ?_
      refine x_callV hC xv_X0_73 dX0_isCounted_133 (q := 136) rfl rfl (m_X2_has_2 h0 _ gF) (nn := (0, 0)) rfl rfl rfl (Nat.le_of_ble_eq_true rfl) ⟨(Nat.le_of_ble_eq_true rfl), (Nat.le_of_ble_eq_true rfl)⟩ ⟨(Nat.le_of_ble_eq_true rfl), (Nat.le_of_ble_eq_true rfl)⟩ (fun v g1 hp => ?_)
      obtain ⟨rfl, hg1⟩ := hp
      replace hg1 := hg1.symm
      subst hg1
      refine x_callV hC xv_X0_93 dX0_isCounted_136 (q := 139) rfl rfl (m_X1_burns h0 _ (hA.km _) hok (k := q) (h := kI σ 41 q) (f := ((kNk σ q (aI α 0) : Nat) : Int)) (w := kI σ 3 0) hq1 ⟨by omega, by omega⟩ ⟨by omega, by omega⟩) (nn := (101, 0)) ((kmix_F _ _ _ rfl).trans hat) rfl rfl (Nat.le_of_ble_eq_true rfl) ⟨(Nat.le_of_ble_eq_true rfl), (Nat.le_of_ble_eq_true rfl)⟩ ⟨(Nat.le_of_ble_eq_true rfl), (Nat.le_of_ble_eq_true rfl)⟩ (fun v g1 hp => ?_)
      obtain ⟨rfl, hg1⟩ := hp
      replace hg1 := hg1.symm
      subst hg1
      refine x_icmp_eq hC dX0_isCounted_139 (q := 142) rfl (tgt := 144) rfl (fun h139 => ?_) (fun h139 => ?_)
      · refine x_iinc hC dX0_isCounted_144 (q := 147) rfl rfl (v := nI (q + 1)) (nI_1 q) ?_
        refine x_goto hC dX0_isCounted_147 (tgt := 13) rfl ?_
        refine x_lveq (lv' := [some (.ref (kA σ 0 0)), some (.ref aa), some (.int 0), some (.int 0), some (.int (nI (kCn (cB7 σ) (q + 1)))), some (.int (nI (kNa σ (aI α 0) (q + 1)))), some (.int (nI (q + 1))), _, _, _]) (by first | (rw [← hlit, show nI (kNa σ (aI α 0) (q + 1)) = nI (kNa σ (aI α 0) q) + nI (kNk σ q (aI α 0)) from (nI_add _ _).symm]; rfl)) ?_
        exact ih (q + 1, _, _, _, _) (by (try dsimp only); omega) (by (try dsimp only); omega)
      · first | exact absurd rfl h139 | exact absurd ((aBrn hok hl hq1 ⟨h41z, h41.2⟩ hwk (by rw [kFull_n hpP, hl.1]; exact kNk_le hb0)).trans (by rw [kFull_n hpP, hl.1])) h139
    have h41z : kI σ 41 q = -1 := by
      have := mt (iI_le (a := 0) (b := kI σ 41 q) ⟨by decide, by decide⟩ ⟨by omega, by omega⟩).mpr h117
      omega
    rw [if_pos (show iI (kI σ 41 q) = -1 by rw [h41z]; rfl)]
    refine x_iconst hC dX0_isCounted_120 (q := 121) rfl (v := (-1)) (by decide) ?_
    refine x_goto hC dX0_isCounted_121 (tgt := 139) rfl ?_
    refine x_icmp_eq hC dX0_isCounted_139 (q := 142) rfl (tgt := 144) rfl (fun h139 => ?_) (fun h139 => ?_)
    · refine x_iinc hC dX0_isCounted_144 (q := 147) rfl rfl (v := nI (q + 1)) (nI_1 q) ?_
      refine x_goto hC dX0_isCounted_147 (tgt := 13) rfl ?_
      refine x_lveq (lv' := [some (.ref (kA σ 0 0)), some (.ref aa), some (.int 0), some (.int 0), some (.int (nI (kCn (cB7 σ) (q + 1)))), some (.int (nI (kNa σ (aI α 0) (q + 1)))), some (.int (nI (q + 1))), _, _, _]) (by first | (rw [← hlit, show nI (kNa σ (aI α 0) (q + 1)) = nI (kNa σ (aI α 0) q) + nI (kNk σ q (aI α 0)) from (nI_add _ _).symm]; rfl)) ?_
      exact ih (q + 1, _, _, _, _) (by (try dsimp only); omega) (by (try dsimp only); omega)
    · first | exact absurd rfl h139 | exact absurd ((aBrn hok hl hq1 ⟨h41z, h41.2⟩ hwk (by rw [kFull_n hpP, hl.1]; exact kNk_le hb0)).trans (by rw [kFull_n hpP, hl.1])) h139
  have hc1 : c < aI α 0 := Nat.not_le.mp (fun w => h43 (nI_le w (by omega)))
  refine x_iload hC dX0_isCounted_46 (q := 48) rfl rfl ?_
  refine x_aloadr_n hC dX0_isCounted_48 (q := 49) rfl rfl ?_
  refine x_iload hC dX0_isCounted_49 (q := 51) rfl rfl ?_
  refine x_iconst hC dX0_isCounted_51 (q := 52) rfl (v := (2)) (by decide) ?_
  refine x_callV hC xv_X0_63 dX0_isCounted_52 (q := 55) rfl rfl (m_X2_child_2 h0 (kT σ f1) gF hw c (by show c < kA σ 61 0; rw [hl.1]; exact hc1)) (nn := (0, 0)) rfl rfl rfl (Nat.le_of_ble_eq_true rfl) ⟨(Nat.le_of_ble_eq_true rfl), (Nat.le_of_ble_eq_true rfl)⟩ ⟨(Nat.le_of_ble_eq_true rfl), (Nat.le_of_ble_eq_true rfl)⟩ (fun v g1 hp => ?_)
  obtain ⟨rfl, hg1⟩ := hp
  replace hg1 := hg1.symm
  subst hg1
  refine x_iload hC dX0_isCounted_55 (q := 57) rfl rfl ?_
  refine x_icmp_ne hC dX0_isCounted_57 (q := 60) rfl (tgt := 64) rfl (fun h57 => ?_) (fun h57 => ?_)
  · have hck : nI (kNk σ q c) + 0 = nI (kNk σ q (c + 1)) := by
      rw [show kNk σ q (c + 1) = kNk σ q c + (if kO σ 0 c 0 = some q then 1 else 0) from rfl, if_neg (fun w => h57 ((hl.kil hpP hok hc1 hq1).mpr w)), ← nI_add]
      rfl
    refine x_iconst hC dX0_isCounted_64 (q := 65) rfl (v := (0)) (by decide) ?_
    refine x_iadd hC dX0_isCounted_65 (q := 66) rfl ?_
    refine x_istore hC dX0_isCounted_66 (q := 68) rfl rfl ?_
    refine x_iinc hC dX0_isCounted_68 (q := 71) rfl rfl (v := nI (c + 1)) (nI_1 c) ?_
    refine x_goto hC dX0_isCounted_71 (tgt := 37) rfl ?_
    refine x_lveq (lv' := [some (.ref (kA σ 0 0)), some (.ref aa), some (.int 0), some (.int 0), some (.int (nI (kCn (cB7 σ) q))), some (.int (nI (kNa σ (aI α 0) q))), some (.int (nI q)), some (.int (iI (kI σ 41 q))), some (.int (nI (kNk σ q (c + 1)))), some (.int (nI (c + 1)))]) (by rw [← hck]; rfl) ?_
    exact ih3 (c + 1) (by (try dsimp only); omega) (by (try dsimp only); omega)
  have hck : nI (kNk σ q c) + 1 = nI (kNk σ q (c + 1)) := by
    rw [show kNk σ q (c + 1) = kNk σ q c + (if kO σ 0 c 0 = some q then 1 else 0) from rfl, if_pos ((hl.kil hpP hok hc1 hq1).mp h57), ← nI_add]
    rfl
  refine x_iconst hC dX0_isCounted_60 (q := 61) rfl (v := (1)) (by decide) ?_
  refine x_goto hC dX0_isCounted_61 (tgt := 65) rfl ?_
  refine x_iadd hC dX0_isCounted_65 (q := 66) rfl ?_
  refine x_istore hC dX0_isCounted_66 (q := 68) rfl rfl ?_
  refine x_iinc hC dX0_isCounted_68 (q := 71) rfl rfl (v := nI (c + 1)) (nI_1 c) ?_
  refine x_goto hC dX0_isCounted_71 (tgt := 37) rfl ?_
  refine x_lveq (lv' := [some (.ref (kA σ 0 0)), some (.ref aa), some (.int 0), some (.int 0), some (.int (nI (kCn (cB7 σ) q))), some (.int (nI (kNa σ (aI α 0) q))), some (.int (nI q)), some (.int (iI (kI σ 41 q))), some (.int (nI (kNk σ q (c + 1)))), some (.int (nI (c + 1)))]) (by rw [← hck]; rfl) ?_
  exact ih3 (c + 1) (by (try dsimp only); omega) (by (try dsimp only); omega)
