/-! SPOTS: what there was -/
def kWas (σ : KS) (i : Nat) : Int32 := match i % 5 with
  | 0 => kKil σ (i / 5)
  | 1 => iI (kI σ 33 (i / 5))
  | 2 => iI (kI σ 34 (i / 5))
  | 3 => if iI (kI σ 36 (i / 5)) = 0 then 0 else 1
  | _ => iI (kI σ 35 (i / 5))
def kWf (σ : KS) (n : Nat) : Nat → Int32 := fun j => if j < 5 * n then kWas σ j else 0
def kHf (σ : KS) (n : Nat) : Nat → Int32 := fun j => if j < n then iI (kI σ 41 j) else 0
theorem kWf_step {σ : KS} {i : Nat} {b3 : Int32} (h3 : b3 = if iI (kI σ 36 i) = 0 then 0 else 1) : upd (upd (upd (upd (upd (kWf σ i) (5 * i) (kKil σ i)) (5 * i + 1) (iI (kI σ 33 i))) (5 * i + 2) (iI (kI σ 34 i))) (5 * i + 3) b3) (5 * i + 4) (iI (kI σ 35 i)) = kWf σ (i + 1) := by
  funext j
  unfold upd kWf
  by_cases e4 : j = 5 * i + 4
  · subst e4
    simp only [if_true, kWas, show (5 * i + 4) % 5 = 4 by omega, show (5 * i + 4) / 5 = i by omega]
    rw [if_pos (by omega)]
  · rw [if_neg e4]
    by_cases e3 : j = 5 * i + 3
    · subst e3
      simp only [if_true, kWas, show (5 * i + 3) % 5 = 3 by omega, show (5 * i + 3) / 5 = i by omega]
      rw [if_pos (show 5 * i + 3 < 5 * (i + 1) by omega)]
      exact h3
    · rw [if_neg e3]
      by_cases e2 : j = 5 * i + 2
      · subst e2
        simp only [if_true, kWas, show (5 * i + 2) % 5 = 2 by omega, show (5 * i + 2) / 5 = i by omega]
        rw [if_pos (by omega)]
      · rw [if_neg e2]
        by_cases e1 : j = 5 * i + 1
        · subst e1
          simp only [if_true, kWas, show (5 * i + 1) % 5 = 1 by omega, show (5 * i + 1) / 5 = i by omega]
          rw [if_pos (by omega)]
        · rw [if_neg e1]
          by_cases e0 : j = 5 * i
          · subst e0
            simp only [if_true, kWas, show (5 * i) % 5 = 0 by omega, show (5 * i) / 5 = i by omega]
            rw [if_pos (by omega)]
          · rw [if_neg e0]
            by_cases h : j < 5 * i
            · rw [if_pos h, if_pos (by omega)]
            · rw [if_neg h, if_neg (by omega)]
theorem kHf_step {σ : KS} {i : Nat} : upd (kHf σ i) i (iI (kI σ 41 i)) = kHf σ (i + 1) := by
  funext j
  unfold upd kHf
  by_cases e : j = i
  · subst e; simp
  · rw [if_neg e]
    by_cases h : j < i
    · rw [if_pos h, if_pos (by omega)]
    · rw [if_neg h, if_neg (by omega)]
theorem xi5 (i j : Nat) : 5 * nI i + nI j = nI (5 * i + j) := by rw [show (5 : Int32) = nI 5 from rfl, pk_mul, nI_add]
theorem xi50 (i : Nat) : 5 * nI i = nI (5 * i) := by rw [show (5 : Int32) = nI 5 from rfl, pk_mul]

set_option maxHeartbeats 4000000 in
set_option maxRecDepth 100000 in
theorem m_X20_init {l : Launch} {s0 : State} {D : va_G} (h0 : x0 l s0 D) (σ : KS) (gF : xG) {a : Nat}  (h45 : gF (45, 0) = some (a, xO 17 [.int 0, .int 0, .null, .null, .null])) (h46 : gF (46, 0) = none) (h47 : gF (47, 0) = none) (hw : KW σ) : xMet l s0 D yX20_init cX20_init 4 none (xr 3 2 43 70) [.ref a, .ref (kA σ 0 0)] (kmix σ gF) (fun r g1 => ∃ a_37 a_44, r = none ∧ g1 = kmix σ (xu (xu (xu gF (46, 0) (some (a_37, xAi .int 40 (kWf σ (kA σ 61 0))))) (47, 0) (some (a_44, xAi .int 3 (kHf σ (kA σ 62 0))))) (45, 0) (some (a, xO 17 [.int (iI (kI σ 3 0)), .int (iI (kI σ 7 0)), .ref a_37, .ref a_44, .ref (kA σ 0 0)])))) := by
  refine xMet.of h0 (by decide +kernel) rfl ?_
  intro p e s m args below meth c hC hr hnm
  refine x_aloadr_n hC dX20_init_0 (q := 1) rfl rfl ?_
  refine x_aloadr_n hC dX20_init_1 (q := 2) rfl rfl ?_
  refine x_putF hC hnm (n := (45, 0)) xff_X20_3_17 xd_17 rfl dX20_init_2 (q := 5) rfl h45 rfl rfl rfl ?_
  refine x_geq (g' := kmix σ (xu gF (45, 0) (some (a, xO 17 [.int 0, .int 0, .null, .null, .ref (kA σ 0 0)])))) (by
    repeat rw [kmix_xuF _ _ _ _ rfl]
    first
      | rfl
      | (refine congrArg (kmix σ) ?_; funext k; simp only [xu]; (repeat' split) <;> first | rfl | simp_all)) ?_
  refine x_aloadr_n hC dX20_init_5 (q := 6) rfl rfl ?_
  refine x_objInit hC q1634 q124 q125 dX20_init_6 (q := 9) rfl (by decide) (Nat.le_of_ble_eq_true rfl) (Nat.le_of_ble_eq_true rfl) ?_
  refine x_aloadr_n hC dX20_init_9 (q := 10) rfl rfl ?_
  refine x_aloadr_n hC dX20_init_10 (q := 11) rfl rfl ?_
  refine x_get hC xf_X20_3_17 dX20_init_11 (q := 14) rfl (n := (45, 0)) rfl rfl ?_
  refine x_get hC xf_X20_15_1 dX20_init_14 (q := 17) rfl (n := (0, 0)) rfl rfl ?_
  refine x_putF hC hnm (n := (45, 0)) xff_X20_19_17 xd_17 rfl dX20_init_17 (q := 20) rfl rfl rfl rfl rfl ?_
  refine x_geq (g' := kmix σ (xu gF (45, 0) (some (a, xO 17 [.int (iI (kI σ 3 0)), .int 0, .null, .null, .ref (kA σ 0 0)])))) (by
    repeat rw [kmix_xuF _ _ _ _ rfl]
    first
      | rfl
      | (refine congrArg (kmix σ) ?_; funext k; simp only [xu]; (repeat' split) <;> first | rfl | simp_all)) ?_
  refine x_aloadr_n hC dX20_init_20 (q := 21) rfl rfl ?_
  refine x_aloadr_n hC dX20_init_21 (q := 22) rfl rfl ?_
  refine x_get hC xf_X20_3_17 dX20_init_22 (q := 25) rfl (n := (45, 0)) rfl rfl ?_
  refine x_get hC xf_X20_22_1 dX20_init_25 (q := 28) rfl (n := (0, 0)) rfl rfl ?_
  refine x_get hC xf_X20_26_2 dX20_init_28 (q := 31) rfl (n := (3, 0)) rfl rfl ?_
  refine x_putF hC hnm (n := (45, 0)) xff_X20_31_17 xd_17 rfl dX20_init_31 (q := 34) rfl rfl rfl rfl rfl ?_
  refine x_geq (g' := kmix σ (xu gF (45, 0) (some (a, xO 17 [.int (iI (kI σ 3 0)), .int (iI (kI σ 7 0)), .null, .null, .ref (kA σ 0 0)])))) (by
    repeat rw [kmix_xuF _ _ _ _ rfl]
    first
      | rfl
      | (refine congrArg (kmix σ) ?_; funext k; simp only [xu]; (repeat' split) <;> first | rfl | simp_all)) ?_
  refine x_aloadr_n hC dX20_init_34 (q := 35) rfl rfl ?_
  refine x_bipush hC dX20_init_35 (q := 37) rfl (v := (40)) (by decide) ?_
  refine x_newa hC (at0 := .int) (N := 40) (x := (40, .inl (fun _ => 0))) (46, 0) q159 dX20_init_37 (q := 39) rfl rfl h46 rfl (by decide) (fun _ => rfl) (Nat.le_of_ble_eq_true rfl) (Nat.le_of_ble_eq_true rfl) (fun a_37 => ?_)
  refine x_putF hC hnm (n := (45, 0)) xff_X20_32_17 xd_17 rfl dX20_init_39 (q := 42) rfl rfl rfl rfl rfl ?_
  refine x_geq (g' := kmix σ (xu (xu gF (46, 0) (some (a_37, xAi .int 40 (fun _ => 0)))) (45, 0) (some (a, xO 17 [.int (iI (kI σ 3 0)), .int (iI (kI σ 7 0)), .ref a_37, .null, .ref (kA σ 0 0)])))) (by
    repeat rw [kmix_xuF _ _ _ _ rfl]
    first
      | rfl
      | (refine congrArg (kmix σ) ?_; funext k; simp only [xu]; (repeat' split) <;> first | rfl | simp_all)) ?_
  refine x_aloadr_n hC dX20_init_42 (q := 43) rfl rfl ?_
  refine x_iconst hC dX20_init_43 (q := 44) rfl (v := (3)) (by decide) ?_
  refine x_newa hC (at0 := .int) (N := 3) (x := (3, .inl (fun _ => 0))) (47, 0) q159 dX20_init_44 (q := 46) rfl rfl h47 rfl (by decide) (fun _ => rfl) (Nat.le_of_ble_eq_true rfl) (Nat.le_of_ble_eq_true rfl) (fun a_44 => ?_)
  refine x_putF hC hnm (n := (45, 0)) xff_X20_36_17 xd_17 rfl dX20_init_46 (q := 49) rfl rfl rfl rfl rfl ?_
  refine x_geq (g' := kmix σ (xu (xu (xu gF (46, 0) (some (a_37, xAi .int 40 (fun _ => 0)))) (47, 0) (some (a_44, xAi .int 3 (fun _ => 0)))) (45, 0) (some (a, xO 17 [.int (iI (kI σ 3 0)), .int (iI (kI σ 7 0)), .ref a_37, .ref a_44, .ref (kA σ 0 0)])))) (by
    repeat rw [kmix_xuF _ _ _ _ rfl]
    first
      | rfl
      | (refine congrArg (kmix σ) ?_; funext k; simp only [xu]; (repeat' split) <;> first | rfl | simp_all)) ?_
  refine x_iconst hC dX20_init_49 (q := 50) rfl (v := (0)) (by decide) ?_
  refine x_istore_n hC dX20_init_50 (q := 51) rfl rfl ?_
  refine x_geq (g' := kmix σ (xu (xu (xu gF (46, 0) (some (a_37, xAi .int 40 (kWf σ 0)))) (47, 0) (some (a_44, xAi .int 3 (fun _ => 0)))) (45, 0) (some (a, xO 17 [.int (iI (kI σ 3 0)), .int (iI (kI σ 7 0)), .ref a_37, .ref a_44, .ref (kA σ 0 0)])))) (by rw [show kWf σ 0 = (fun _ => 0) from funext fun j => by simp [kWf]]) ?_
  refine x_loop (S := (fun i => ((2 : Nat), (43 : Nat), kmix σ (xu (xu (xu gF (46, 0) (some (a_37, xAi .int 40 (kWf σ i)))) (47, 0) (some (a_44, xAi .int 3 (fun _ => 0)))) (45, 0) (some (a, xO 17 [.int (iI (kI σ 3 0)), .int (iI (kI σ 7 0)), .ref a_37, .ref a_44, .ref (kA σ 0 0)]))), ([some (.ref a), some (.ref (kA σ 0 0)), some (.int (nI i)), none] : xL), ([] : List Value)))) (Inv := fun i => i ≤ kA σ 61 0) (μ := fun i => kA σ 61 0 - i) ?_ 0 (Nat.zero_le _)
  intro i hi ih
  dsimp only at ih ⊢
  refine x_iload_n hC dX20_init_51 (q := 52) rfl rfl ?_
  refine x_aloadr_n hC dX20_init_52 (q := 53) rfl rfl ?_
  refine x_callVN hC xv_X20_39 dX20_init_53 (q := 56) rfl rfl (m_X2_children h0 σ _) (nn := (0, 0)) rfl rfl rfl (Nat.le_of_ble_eq_true rfl) ⟨(Nat.le_of_ble_eq_true rfl), (Nat.le_of_ble_eq_true rfl)⟩ ⟨(Nat.le_of_ble_eq_true rfl), (Nat.le_of_ble_eq_true rfl)⟩ (fun v g1 hp => ?_)
  obtain ⟨rfl, hg1⟩ := hp
  replace hg1 := hg1.symm
  subst hg1
  refine x_icmp_ge hC dX20_init_56 (q := 59) rfl (tgt := 156) rfl (fun h56 => ?_) (fun h56 => ?_)
  · have hi2 : i = kA σ 61 0 := by
      have := hw.1
      have := (nI_leI (by omega) (by omega)).mp h56
      omega
    refine x_iconst hC dX20_init_156 (q := 157) rfl (v := (0)) (by decide) ?_
    refine x_istore_n hC dX20_init_157 (q := 158) rfl rfl ?_
    rw [hi2]
    refine x_geq (g' := kmix σ (xu (xu (xu gF (46, 0) (some (a_37, xAi .int 40 (kWf σ (kA σ 61 0))))) (47, 0) (some (a_44, xAi .int 3 (kHf σ 0)))) (45, 0) (some (a, xO 17 [.int (iI (kI σ 3 0)), .int (iI (kI σ 7 0)), .ref a_37, .ref a_44, .ref (kA σ 0 0)])))) (by rw [show kHf σ 0 = (fun _ => 0) from funext fun j => by simp [kHf]]) ?_
    refine x_loop (S := (fun i => ((2 : Nat), (43 : Nat), kmix σ (xu (xu (xu gF (46, 0) (some (a_37, xAi .int 40 (kWf σ (kA σ 61 0))))) (47, 0) (some (a_44, xAi .int 3 (kHf σ i)))) (45, 0) (some (a, xO 17 [.int (iI (kI σ 3 0)), .int (iI (kI σ 7 0)), .ref a_37, .ref a_44, .ref (kA σ 0 0)]))), ([some (.ref a), some (.ref (kA σ 0 0)), some (.int (nI i)), none] : xL), ([] : List Value)))) (Inv := fun i => i ≤ kA σ 62 0) (μ := fun i => kA σ 62 0 - i) ?_ 0 (Nat.zero_le _)
    intro i hi ih
    dsimp only at ih ⊢
    refine x_iload_n hC dX20_init_158 (q := 159) rfl rfl ?_
    refine x_aloadr_n hC dX20_init_159 (q := 160) rfl rfl ?_
    refine x_callVN hC xv_X20_70 dX20_init_160 (q := 163) rfl rfl (m_X2_kilns h0 σ _) (nn := (0, 0)) rfl rfl rfl (Nat.le_of_ble_eq_true rfl) ⟨(Nat.le_of_ble_eq_true rfl), (Nat.le_of_ble_eq_true rfl)⟩ ⟨(Nat.le_of_ble_eq_true rfl), (Nat.le_of_ble_eq_true rfl)⟩ (fun v g1 hp => ?_)
    obtain ⟨rfl, hg1⟩ := hp
    replace hg1 := hg1.symm
    subst hg1
    refine x_icmp_ge hC dX20_init_163 (q := 166) rfl (tgt := 195) rfl (fun h163 => ?_) (fun h163 => ?_)
    · have hi3 : i = kA σ 62 0 := by
        have := hw.2.1
        have := (nI_leI (by omega) (by omega)).mp h163
        omega
      exact x_vret hC hr dX20_init_195 (Nat.le_of_ble_eq_true rfl) (Nat.le_of_ble_eq_true rfl) ⟨a_37, a_44, rfl, by rw [hi3]⟩
    have hi3 : i < kA σ 62 0 := Nat.lt_of_not_le (fun q => h163 (nI_le q (by have := hw.2.1; omega)))
    have hn3 := hw.2.1
    refine x_aloadr_n hC dX20_init_166 (q := 167) rfl rfl ?_
    refine x_get hC xf_X20_36_17 dX20_init_167 (q := 170) rfl (n := (45, 0)) rfl rfl ?_
    refine x_iload_n hC dX20_init_170 (q := 171) rfl rfl ?_
    refine x_aloadr_n hC dX20_init_171 (q := 172) rfl rfl ?_
    refine x_get hC xf_X20_22_1 dX20_init_172 (q := 175) rfl (n := (0, 0)) rfl rfl ?_
    refine x_get hC xf_X20_73_2 dX20_init_175 (q := 178) rfl (n := (3, 0)) rfl rfl ?_
    refine x_iload_n hC dX20_init_178 (q := 179) rfl rfl ?_
    refine x_callV hC xv_X20_46 dX20_init_179 (q := 182) rfl rfl (m_J3_get h0 _ (n := (6, 0)) (nd := (7, 0)) rfl (kg_7 (by have := hw.c62.1; omega)) (j := i) rfl (sz := kA σ 62 0) rfl hi3 hw.c62.1 (by have := hw.c62.2; omega)) (nn := (6, 0)) rfl rfl rfl (Nat.le_of_ble_eq_true rfl) ⟨(Nat.le_of_ble_eq_true rfl), (Nat.le_of_ble_eq_true rfl)⟩ ⟨(Nat.le_of_ble_eq_true rfl), (Nat.le_of_ble_eq_true rfl)⟩ (fun v g1 hp => ?_)
    rw [if_pos hi3] at hp
    obtain ⟨rfl, hg1⟩ := hp
    replace hg1 := hg1.symm
    subst hg1
    refine x_castS hC q1640 rfl dX20_init_182 (q := 185) rfl (n := (21, i)) (kg_21 i hi3) ?_
    refine x_get hC xf_X20_77_6 dX20_init_185 (q := 188) rfl (n := (21, i)) (kg_21 i hi3) rfl ?_
    refine x_iast hC dX20_init_188 (q := 189) rfl (n := (47, 0)) rfl rfl rfl (by omega) (by decide) ?_
    refine x_geq (g' := kmix σ (xu (xu (xu gF (46, 0) (some (a_37, xAi .int 40 (kWf σ (kA σ 61 0))))) (47, 0) (some (a_44, xAi .int 3 (upd (kHf σ i) i (iI (kI σ 41 i)))))) (45, 0) (some (a, xO 17 [.int (iI (kI σ 3 0)), .int (iI (kI σ 7 0)), .ref a_37, .ref a_44, .ref (kA σ 0 0)])))) (by
      repeat rw [kmix_xuF _ _ _ _ rfl]
      first
        | rfl
        | (refine congrArg (kmix σ) ?_; funext k; simp only [xu]; (repeat' split) <;> first | rfl | simp_all)) ?_
    refine x_iinc hC dX20_init_189 (q := 192) rfl rfl (v := nI (i + 1)) (nI_1 i) ?_
    refine x_goto hC dX20_init_192 (tgt := 158) rfl ?_
    refine x_geq (g' := kmix σ (xu (xu (xu gF (46, 0) (some (a_37, xAi .int 40 (kWf σ (kA σ 61 0))))) (47, 0) (some (a_44, xAi .int 3 (kHf σ (i + 1))))) (45, 0) (some (a, xO 17 [.int (iI (kI σ 3 0)), .int (iI (kI σ 7 0)), .ref a_37, .ref a_44, .ref (kA σ 0 0)])))) (by rw [kHf_step]) ?_
    exact ih (i + 1) (by omega) (by omega)
  have hi2 : i < kA σ 61 0 := Nat.lt_of_not_le (fun q => h56 (nI_le q (by have := hw.1; omega)))
  have hn8 := hw.1
  refine x_aloadr_n hC dX20_init_59 (q := 60) rfl rfl ?_
  refine x_get hC xf_X20_22_1 dX20_init_60 (q := 63) rfl (n := (0, 0)) rfl rfl ?_
  refine x_get hC xf_X20_43_2 dX20_init_63 (q := 66) rfl (n := (3, 0)) rfl rfl ?_
  refine x_iload_n hC dX20_init_66 (q := 67) rfl rfl ?_
  refine x_callV hC xv_X20_46 dX20_init_67 (q := 70) rfl rfl (m_J3_get h0 _ (n := (4, 0)) (nd := (5, 0)) rfl (kg_5 (by have := hw.c61.1; omega)) (j := i) rfl (sz := kA σ 61 0) rfl hi2 hw.c61.1 (by have := hw.c61.2; omega)) (nn := (4, 0)) rfl rfl rfl (Nat.le_of_ble_eq_true rfl) ⟨(Nat.le_of_ble_eq_true rfl), (Nat.le_of_ble_eq_true rfl)⟩ ⟨(Nat.le_of_ble_eq_true rfl), (Nat.le_of_ble_eq_true rfl)⟩ (fun v g1 hp => ?_)
  rw [if_pos hi2] at hp
  obtain ⟨rfl, hg1⟩ := hp
  replace hg1 := hg1.symm
  subst hg1
  refine x_castS hC q1637 rfl dX20_init_70 (q := 73) rfl (n := (20, i)) (kg_20 i hi2) ?_
  refine x_astorer_n hC dX20_init_73 (q := 74) rfl rfl ?_
  refine x_aloadr_n hC dX20_init_74 (q := 75) rfl rfl ?_
  refine x_get hC xf_X20_32_17 dX20_init_75 (q := 78) rfl (n := (45, 0)) rfl rfl ?_
  refine x_iconst hC dX20_init_78 (q := 79) rfl (v := (5)) (by decide) ?_
  refine x_iload_n hC dX20_init_79 (q := 80) rfl rfl ?_
  refine x_imul hC dX20_init_80 (q := 81) rfl ?_
  refine x_aloadr_n hC dX20_init_81 (q := 82) rfl rfl ?_
  refine x_callV hC xv_X20_54 dX20_init_82 (q := 85) rfl rfl (m_X8_kiln h0 σ _ hw i hi2) (nn := (20, i)) (kg_20 i hi2) rfl rfl (Nat.le_of_ble_eq_true rfl) ⟨(Nat.le_of_ble_eq_true rfl), (Nat.le_of_ble_eq_true rfl)⟩ ⟨(Nat.le_of_ble_eq_true rfl), (Nat.le_of_ble_eq_true rfl)⟩ (fun v g1 hp => ?_)
  obtain ⟨rfl, hg1⟩ := hp
  replace hg1 := hg1.symm
  subst hg1
  refine x_iast hC dX20_init_85 (q := 86) rfl (n := (46, 0)) rfl rfl (xi50 i) (by omega) (by decide) ?_
  refine x_geq (g' := kmix σ (xu (xu (xu gF (46, 0) (some (a_37, xAi .int 40 (upd (kWf σ i) (5 * i) (kKil σ i))))) (47, 0) (some (a_44, xAi .int 3 (fun _ => 0)))) (45, 0) (some (a, xO 17 [.int (iI (kI σ 3 0)), .int (iI (kI σ 7 0)), .ref a_37, .ref a_44, .ref (kA σ 0 0)])))) (by
    repeat rw [kmix_xuF _ _ _ _ rfl]
    first
      | rfl
      | (refine congrArg (kmix σ) ?_; funext k; simp only [xu]; (repeat' split) <;> first | rfl | simp_all)) ?_
  refine x_aloadr_n hC dX20_init_86 (q := 87) rfl rfl ?_
  refine x_get hC xf_X20_32_17 dX20_init_87 (q := 90) rfl (n := (45, 0)) rfl rfl ?_
  refine x_iconst hC dX20_init_90 (q := 91) rfl (v := (5)) (by decide) ?_
  refine x_iload_n hC dX20_init_91 (q := 92) rfl rfl ?_
  refine x_imul hC dX20_init_92 (q := 93) rfl ?_
  refine x_iconst hC dX20_init_93 (q := 94) rfl (v := (1)) (by decide) ?_
  refine x_iadd hC dX20_init_94 (q := 95) rfl ?_
  refine x_aloadr_n hC dX20_init_95 (q := 96) rfl rfl ?_
  refine x_get hC xf_X20_57_5 dX20_init_96 (q := 99) rfl (n := (20, i)) (kg_20 i hi2) rfl ?_
  refine x_iast hC dX20_init_99 (q := 100) rfl (n := (46, 0)) rfl rfl (xi5 i 1) (by omega) (by decide) ?_
  refine x_geq (g' := kmix σ (xu (xu (xu gF (46, 0) (some (a_37, xAi .int 40 (upd (upd (kWf σ i) (5 * i) (kKil σ i)) (5 * i + 1) (iI (kI σ 33 i)))))) (47, 0) (some (a_44, xAi .int 3 (fun _ => 0)))) (45, 0) (some (a, xO 17 [.int (iI (kI σ 3 0)), .int (iI (kI σ 7 0)), .ref a_37, .ref a_44, .ref (kA σ 0 0)])))) (by
    repeat rw [kmix_xuF _ _ _ _ rfl]
    first
      | rfl
      | (refine congrArg (kmix σ) ?_; funext k; simp only [xu]; (repeat' split) <;> first | rfl | simp_all)) ?_
  refine x_aloadr_n hC dX20_init_100 (q := 101) rfl rfl ?_
  refine x_get hC xf_X20_32_17 dX20_init_101 (q := 104) rfl (n := (45, 0)) rfl rfl ?_
  refine x_iconst hC dX20_init_104 (q := 105) rfl (v := (5)) (by decide) ?_
  refine x_iload_n hC dX20_init_105 (q := 106) rfl rfl ?_
  refine x_imul hC dX20_init_106 (q := 107) rfl ?_
  refine x_iconst hC dX20_init_107 (q := 108) rfl (v := (2)) (by decide) ?_
  refine x_iadd hC dX20_init_108 (q := 109) rfl ?_
  refine x_aloadr_n hC dX20_init_109 (q := 110) rfl rfl ?_
  refine x_get hC xf_X20_60_5 dX20_init_110 (q := 113) rfl (n := (20, i)) (kg_20 i hi2) rfl ?_
  refine x_iast hC dX20_init_113 (q := 114) rfl (n := (46, 0)) rfl rfl (xi5 i 2) (by omega) (by decide) ?_
  refine x_geq (g' := kmix σ (xu (xu (xu gF (46, 0) (some (a_37, xAi .int 40 (upd (upd (upd (kWf σ i) (5 * i) (kKil σ i)) (5 * i + 1) (iI (kI σ 33 i))) (5 * i + 2) (iI (kI σ 34 i)))))) (47, 0) (some (a_44, xAi .int 3 (fun _ => 0)))) (45, 0) (some (a, xO 17 [.int (iI (kI σ 3 0)), .int (iI (kI σ 7 0)), .ref a_37, .ref a_44, .ref (kA σ 0 0)])))) (by
    repeat rw [kmix_xuF _ _ _ _ rfl]
    first
      | rfl
      | (refine congrArg (kmix σ) ?_; funext k; simp only [xu]; (repeat' split) <;> first | rfl | simp_all)) ?_
  refine x_aloadr_n hC dX20_init_114 (q := 115) rfl rfl ?_
  refine x_get hC xf_X20_32_17 dX20_init_115 (q := 118) rfl (n := (45, 0)) rfl rfl ?_
  refine x_iconst hC dX20_init_118 (q := 119) rfl (v := (5)) (by decide) ?_
  refine x_iload_n hC dX20_init_119 (q := 120) rfl rfl ?_
  refine x_imul hC dX20_init_120 (q := 121) rfl ?_
  refine x_iconst hC dX20_init_121 (q := 122) rfl (v := (3)) (by decide) ?_
  refine x_iadd hC dX20_init_122 (q := 123) rfl ?_
  refine x_aloadr_n hC dX20_init_123 (q := 124) rfl rfl ?_
  refine x_get hC xf_X20_63_5 dX20_init_124 (q := 127) rfl (n := (20, i)) (kg_20 i hi2) rfl ?_
  refine x_if_eq hC dX20_init_127 (q := 130) rfl (tgt := 134) rfl (fun h127 => ?_) (fun h127 => ?_)
  · refine x_iconst hC dX20_init_134 (q := 135) rfl (v := (0)) (by decide) ?_
    refine x_iast hC dX20_init_135 (q := 136) rfl (n := (46, 0)) rfl rfl (xi5 i 3) (by omega) (by decide) ?_
    refine x_geq (g' := kmix σ (xu (xu (xu gF (46, 0) (some (a_37, xAi .int 40 (upd (upd (upd (upd (kWf σ i) (5 * i) (kKil σ i)) (5 * i + 1) (iI (kI σ 33 i))) (5 * i + 2) (iI (kI σ 34 i))) (5 * i + 3) _)))) (47, 0) (some (a_44, xAi .int 3 (fun _ => 0)))) (45, 0) (some (a, xO 17 [.int (iI (kI σ 3 0)), .int (iI (kI σ 7 0)), .ref a_37, .ref a_44, .ref (kA σ 0 0)])))) (by
      repeat rw [kmix_xuF _ _ _ _ rfl]
      first
        | rfl
        | (refine congrArg (kmix σ) ?_; funext k; simp only [xu]; (repeat' split) <;> first | rfl | simp_all)) ?_
    refine x_aloadr_n hC dX20_init_136 (q := 137) rfl rfl ?_
    refine x_get hC xf_X20_32_17 dX20_init_137 (q := 140) rfl (n := (45, 0)) rfl rfl ?_
    refine x_iconst hC dX20_init_140 (q := 141) rfl (v := (5)) (by decide) ?_
    refine x_iload_n hC dX20_init_141 (q := 142) rfl rfl ?_
    refine x_imul hC dX20_init_142 (q := 143) rfl ?_
    refine x_iconst hC dX20_init_143 (q := 144) rfl (v := (4)) (by decide) ?_
    refine x_iadd hC dX20_init_144 (q := 145) rfl ?_
    refine x_aloadr_n hC dX20_init_145 (q := 146) rfl rfl ?_
    refine x_get hC xf_X20_67_5 dX20_init_146 (q := 149) rfl (n := (20, i)) (kg_20 i hi2) rfl ?_
    refine x_iast hC dX20_init_149 (q := 150) rfl (n := (46, 0)) rfl rfl (xi5 i 4) (by omega) (by decide) ?_
    refine x_geq (g' := kmix σ (xu (xu (xu gF (46, 0) (some (a_37, xAi .int 40 (upd (upd (upd (upd (upd (kWf σ i) (5 * i) (kKil σ i)) (5 * i + 1) (iI (kI σ 33 i))) (5 * i + 2) (iI (kI σ 34 i))) (5 * i + 3) _) (5 * i + 4) (iI (kI σ 35 i)))))) (47, 0) (some (a_44, xAi .int 3 (fun _ => 0)))) (45, 0) (some (a, xO 17 [.int (iI (kI σ 3 0)), .int (iI (kI σ 7 0)), .ref a_37, .ref a_44, .ref (kA σ 0 0)])))) (by
      repeat rw [kmix_xuF _ _ _ _ rfl]
      first
        | rfl
        | (refine congrArg (kmix σ) ?_; funext k; simp only [xu]; (repeat' split) <;> first | rfl | simp_all)) ?_
    refine x_iinc hC dX20_init_150 (q := 153) rfl rfl (v := nI (i + 1)) (nI_1 i) ?_
    refine x_goto hC dX20_init_153 (tgt := 51) rfl ?_
    refine x_geq (g' := kmix σ (xu (xu (xu gF (46, 0) (some (a_37, xAi .int 40 (kWf σ (i + 1))))) (47, 0) (some (a_44, xAi .int 3 (fun _ => 0)))) (45, 0) (some (a, xO 17 [.int (iI (kI σ 3 0)), .int (iI (kI σ 7 0)), .ref a_37, .ref a_44, .ref (kA σ 0 0)])))) (by rw [kWf_step (by first | rw [if_pos h127] | rw [if_neg h127])]) ?_
    refine x_lvle (lv' := [some (.ref a), some (.ref (kA σ 0 0)), some (.int (nI (i + 1))), none]) (by repeat' constructor) ?_
    exact ih (i + 1) (by omega) (by omega)
  refine x_iconst hC dX20_init_130 (q := 131) rfl (v := (1)) (by decide) ?_
  refine x_goto hC dX20_init_131 (tgt := 135) rfl ?_
  refine x_iast hC dX20_init_135 (q := 136) rfl (n := (46, 0)) rfl rfl (xi5 i 3) (by omega) (by decide) ?_
  refine x_geq (g' := kmix σ (xu (xu (xu gF (46, 0) (some (a_37, xAi .int 40 (upd (upd (upd (upd (kWf σ i) (5 * i) (kKil σ i)) (5 * i + 1) (iI (kI σ 33 i))) (5 * i + 2) (iI (kI σ 34 i))) (5 * i + 3) _)))) (47, 0) (some (a_44, xAi .int 3 (fun _ => 0)))) (45, 0) (some (a, xO 17 [.int (iI (kI σ 3 0)), .int (iI (kI σ 7 0)), .ref a_37, .ref a_44, .ref (kA σ 0 0)])))) (by
    repeat rw [kmix_xuF _ _ _ _ rfl]
    first
      | rfl
      | (refine congrArg (kmix σ) ?_; funext k; simp only [xu]; (repeat' split) <;> first | rfl | simp_all)) ?_
  refine x_aloadr_n hC dX20_init_136 (q := 137) rfl rfl ?_
  refine x_get hC xf_X20_32_17 dX20_init_137 (q := 140) rfl (n := (45, 0)) rfl rfl ?_
  refine x_iconst hC dX20_init_140 (q := 141) rfl (v := (5)) (by decide) ?_
  refine x_iload_n hC dX20_init_141 (q := 142) rfl rfl ?_
  refine x_imul hC dX20_init_142 (q := 143) rfl ?_
  refine x_iconst hC dX20_init_143 (q := 144) rfl (v := (4)) (by decide) ?_
  refine x_iadd hC dX20_init_144 (q := 145) rfl ?_
  refine x_aloadr_n hC dX20_init_145 (q := 146) rfl rfl ?_
  refine x_get hC xf_X20_67_5 dX20_init_146 (q := 149) rfl (n := (20, i)) (kg_20 i hi2) rfl ?_
  refine x_iast hC dX20_init_149 (q := 150) rfl (n := (46, 0)) rfl rfl (xi5 i 4) (by omega) (by decide) ?_
  refine x_geq (g' := kmix σ (xu (xu (xu gF (46, 0) (some (a_37, xAi .int 40 (upd (upd (upd (upd (upd (kWf σ i) (5 * i) (kKil σ i)) (5 * i + 1) (iI (kI σ 33 i))) (5 * i + 2) (iI (kI σ 34 i))) (5 * i + 3) _) (5 * i + 4) (iI (kI σ 35 i)))))) (47, 0) (some (a_44, xAi .int 3 (fun _ => 0)))) (45, 0) (some (a, xO 17 [.int (iI (kI σ 3 0)), .int (iI (kI σ 7 0)), .ref a_37, .ref a_44, .ref (kA σ 0 0)])))) (by
    repeat rw [kmix_xuF _ _ _ _ rfl]
    first
      | rfl
      | (refine congrArg (kmix σ) ?_; funext k; simp only [xu]; (repeat' split) <;> first | rfl | simp_all)) ?_
  refine x_iinc hC dX20_init_150 (q := 153) rfl rfl (v := nI (i + 1)) (nI_1 i) ?_
  refine x_goto hC dX20_init_153 (tgt := 51) rfl ?_
  refine x_geq (g' := kmix σ (xu (xu (xu gF (46, 0) (some (a_37, xAi .int 40 (kWf σ (i + 1))))) (47, 0) (some (a_44, xAi .int 3 (fun _ => 0)))) (45, 0) (some (a, xO 17 [.int (iI (kI σ 3 0)), .int (iI (kI σ 7 0)), .ref a_37, .ref a_44, .ref (kA σ 0 0)])))) (by rw [kWf_step (by first | rw [if_pos h127] | rw [if_neg h127])]) ?_
  refine x_lvle (lv' := [some (.ref a), some (.ref (kA σ 0 0)), some (.int (nI (i + 1))), none]) (by repeat' constructor) ?_
  exact ih (i + 1) (by omega) (by omega)

set_option maxHeartbeats 4000000 in
set_option maxRecDepth 100000 in
theorem m_X20_init_act {l : Launch} {s0 : State} {D : va_G} (h0 : x0 l s0 D) (σ : KS) (gF : xG) {a : Nat} {v5 : Value} {v6 : Value} (h45 : gF (48, 0) = some (a, xO 20 [.int 0, .int 0, .null, .null, .null, v5, v6])) (h46 : gF (49, 0) = none) (h47 : gF (50, 0) = none) (hw : KW σ) : xMet l s0 D yX20_init cX20_init 4 none (xr 3 2 43 70) [.ref a, .ref (kA σ 0 0)] (kmix σ gF) (fun r g1 => ∃ a_37 a_44, r = none ∧ g1 = kmix σ (xu (xu (xu gF (49, 0) (some (a_37, xAi .int 40 (kWf σ (kA σ 61 0))))) (50, 0) (some (a_44, xAi .int 3 (kHf σ (kA σ 62 0))))) (48, 0) (some (a, xO 20 [.int (iI (kI σ 3 0)), .int (iI (kI σ 7 0)), .ref a_37, .ref a_44, .ref (kA σ 0 0), v5, v6])))) := by
  refine xMet.of h0 (by decide +kernel) rfl ?_
  intro p e s m args below meth c hC hr hnm
  refine x_aloadr_n hC dX20_init_0 (q := 1) rfl rfl ?_
  refine x_aloadr_n hC dX20_init_1 (q := 2) rfl rfl ?_
  refine x_putF hC hnm (n := (48, 0)) xff_X20_3_20 xd_20 rfl dX20_init_2 (q := 5) rfl h45 rfl rfl rfl ?_
  refine x_geq (g' := kmix σ (xu gF (48, 0) (some (a, xO 20 [.int 0, .int 0, .null, .null, .ref (kA σ 0 0), v5, v6])))) (by
    repeat rw [kmix_xuF _ _ _ _ rfl]
    first
      | rfl
      | (refine congrArg (kmix σ) ?_; funext k; simp only [xu]; (repeat' split) <;> first | rfl | simp_all)) ?_
  refine x_aloadr_n hC dX20_init_5 (q := 6) rfl rfl ?_
  refine x_objInit hC q1634 q124 q125 dX20_init_6 (q := 9) rfl (by decide) (Nat.le_of_ble_eq_true rfl) (Nat.le_of_ble_eq_true rfl) ?_
  refine x_aloadr_n hC dX20_init_9 (q := 10) rfl rfl ?_
  refine x_aloadr_n hC dX20_init_10 (q := 11) rfl rfl ?_
  refine x_get hC xf_X20_3_20 dX20_init_11 (q := 14) rfl (n := (48, 0)) rfl rfl ?_
  refine x_get hC xf_X20_15_1 dX20_init_14 (q := 17) rfl (n := (0, 0)) rfl rfl ?_
  refine x_putF hC hnm (n := (48, 0)) xff_X20_19_20 xd_20 rfl dX20_init_17 (q := 20) rfl rfl rfl rfl rfl ?_
  refine x_geq (g' := kmix σ (xu gF (48, 0) (some (a, xO 20 [.int (iI (kI σ 3 0)), .int 0, .null, .null, .ref (kA σ 0 0), v5, v6])))) (by
    repeat rw [kmix_xuF _ _ _ _ rfl]
    first
      | rfl
      | (refine congrArg (kmix σ) ?_; funext k; simp only [xu]; (repeat' split) <;> first | rfl | simp_all)) ?_
  refine x_aloadr_n hC dX20_init_20 (q := 21) rfl rfl ?_
  refine x_aloadr_n hC dX20_init_21 (q := 22) rfl rfl ?_
  refine x_get hC xf_X20_3_20 dX20_init_22 (q := 25) rfl (n := (48, 0)) rfl rfl ?_
  refine x_get hC xf_X20_22_1 dX20_init_25 (q := 28) rfl (n := (0, 0)) rfl rfl ?_
  refine x_get hC xf_X20_26_2 dX20_init_28 (q := 31) rfl (n := (3, 0)) rfl rfl ?_
  refine x_putF hC hnm (n := (48, 0)) xff_X20_31_20 xd_20 rfl dX20_init_31 (q := 34) rfl rfl rfl rfl rfl ?_
  refine x_geq (g' := kmix σ (xu gF (48, 0) (some (a, xO 20 [.int (iI (kI σ 3 0)), .int (iI (kI σ 7 0)), .null, .null, .ref (kA σ 0 0), v5, v6])))) (by
    repeat rw [kmix_xuF _ _ _ _ rfl]
    first
      | rfl
      | (refine congrArg (kmix σ) ?_; funext k; simp only [xu]; (repeat' split) <;> first | rfl | simp_all)) ?_
  refine x_aloadr_n hC dX20_init_34 (q := 35) rfl rfl ?_
  refine x_bipush hC dX20_init_35 (q := 37) rfl (v := (40)) (by decide) ?_
  refine x_newa hC (at0 := .int) (N := 40) (x := (40, .inl (fun _ => 0))) (49, 0) q159 dX20_init_37 (q := 39) rfl rfl h46 rfl (by decide) (fun _ => rfl) (Nat.le_of_ble_eq_true rfl) (Nat.le_of_ble_eq_true rfl) (fun a_37 => ?_)
  refine x_putF hC hnm (n := (48, 0)) xff_X20_32_20 xd_20 rfl dX20_init_39 (q := 42) rfl rfl rfl rfl rfl ?_
  refine x_geq (g' := kmix σ (xu (xu gF (49, 0) (some (a_37, xAi .int 40 (fun _ => 0)))) (48, 0) (some (a, xO 20 [.int (iI (kI σ 3 0)), .int (iI (kI σ 7 0)), .ref a_37, .null, .ref (kA σ 0 0), v5, v6])))) (by
    repeat rw [kmix_xuF _ _ _ _ rfl]
    first
      | rfl
      | (refine congrArg (kmix σ) ?_; funext k; simp only [xu]; (repeat' split) <;> first | rfl | simp_all)) ?_
  refine x_aloadr_n hC dX20_init_42 (q := 43) rfl rfl ?_
  refine x_iconst hC dX20_init_43 (q := 44) rfl (v := (3)) (by decide) ?_
  refine x_newa hC (at0 := .int) (N := 3) (x := (3, .inl (fun _ => 0))) (50, 0) q159 dX20_init_44 (q := 46) rfl rfl h47 rfl (by decide) (fun _ => rfl) (Nat.le_of_ble_eq_true rfl) (Nat.le_of_ble_eq_true rfl) (fun a_44 => ?_)
  refine x_putF hC hnm (n := (48, 0)) xff_X20_36_20 xd_20 rfl dX20_init_46 (q := 49) rfl rfl rfl rfl rfl ?_
  refine x_geq (g' := kmix σ (xu (xu (xu gF (49, 0) (some (a_37, xAi .int 40 (fun _ => 0)))) (50, 0) (some (a_44, xAi .int 3 (fun _ => 0)))) (48, 0) (some (a, xO 20 [.int (iI (kI σ 3 0)), .int (iI (kI σ 7 0)), .ref a_37, .ref a_44, .ref (kA σ 0 0), v5, v6])))) (by
    repeat rw [kmix_xuF _ _ _ _ rfl]
    first
      | rfl
      | (refine congrArg (kmix σ) ?_; funext k; simp only [xu]; (repeat' split) <;> first | rfl | simp_all)) ?_
  refine x_iconst hC dX20_init_49 (q := 50) rfl (v := (0)) (by decide) ?_
  refine x_istore_n hC dX20_init_50 (q := 51) rfl rfl ?_
  refine x_geq (g' := kmix σ (xu (xu (xu gF (49, 0) (some (a_37, xAi .int 40 (kWf σ 0)))) (50, 0) (some (a_44, xAi .int 3 (fun _ => 0)))) (48, 0) (some (a, xO 20 [.int (iI (kI σ 3 0)), .int (iI (kI σ 7 0)), .ref a_37, .ref a_44, .ref (kA σ 0 0), v5, v6])))) (by rw [show kWf σ 0 = (fun _ => 0) from funext fun j => by simp [kWf]]) ?_
  refine x_loop (S := (fun i => ((2 : Nat), (43 : Nat), kmix σ (xu (xu (xu gF (49, 0) (some (a_37, xAi .int 40 (kWf σ i)))) (50, 0) (some (a_44, xAi .int 3 (fun _ => 0)))) (48, 0) (some (a, xO 20 [.int (iI (kI σ 3 0)), .int (iI (kI σ 7 0)), .ref a_37, .ref a_44, .ref (kA σ 0 0), v5, v6]))), ([some (.ref a), some (.ref (kA σ 0 0)), some (.int (nI i)), none] : xL), ([] : List Value)))) (Inv := fun i => i ≤ kA σ 61 0) (μ := fun i => kA σ 61 0 - i) ?_ 0 (Nat.zero_le _)
  intro i hi ih
  dsimp only at ih ⊢
  refine x_iload_n hC dX20_init_51 (q := 52) rfl rfl ?_
  refine x_aloadr_n hC dX20_init_52 (q := 53) rfl rfl ?_
  refine x_callVN hC xv_X20_39 dX20_init_53 (q := 56) rfl rfl (m_X2_children h0 σ _) (nn := (0, 0)) rfl rfl rfl (Nat.le_of_ble_eq_true rfl) ⟨(Nat.le_of_ble_eq_true rfl), (Nat.le_of_ble_eq_true rfl)⟩ ⟨(Nat.le_of_ble_eq_true rfl), (Nat.le_of_ble_eq_true rfl)⟩ (fun v g1 hp => ?_)
  obtain ⟨rfl, hg1⟩ := hp
  replace hg1 := hg1.symm
  subst hg1
  refine x_icmp_ge hC dX20_init_56 (q := 59) rfl (tgt := 156) rfl (fun h56 => ?_) (fun h56 => ?_)
  · have hi2 : i = kA σ 61 0 := by
      have := hw.1
      have := (nI_leI (by omega) (by omega)).mp h56
      omega
    refine x_iconst hC dX20_init_156 (q := 157) rfl (v := (0)) (by decide) ?_
    refine x_istore_n hC dX20_init_157 (q := 158) rfl rfl ?_
    rw [hi2]
    refine x_geq (g' := kmix σ (xu (xu (xu gF (49, 0) (some (a_37, xAi .int 40 (kWf σ (kA σ 61 0))))) (50, 0) (some (a_44, xAi .int 3 (kHf σ 0)))) (48, 0) (some (a, xO 20 [.int (iI (kI σ 3 0)), .int (iI (kI σ 7 0)), .ref a_37, .ref a_44, .ref (kA σ 0 0), v5, v6])))) (by rw [show kHf σ 0 = (fun _ => 0) from funext fun j => by simp [kHf]]) ?_
    refine x_loop (S := (fun i => ((2 : Nat), (43 : Nat), kmix σ (xu (xu (xu gF (49, 0) (some (a_37, xAi .int 40 (kWf σ (kA σ 61 0))))) (50, 0) (some (a_44, xAi .int 3 (kHf σ i)))) (48, 0) (some (a, xO 20 [.int (iI (kI σ 3 0)), .int (iI (kI σ 7 0)), .ref a_37, .ref a_44, .ref (kA σ 0 0), v5, v6]))), ([some (.ref a), some (.ref (kA σ 0 0)), some (.int (nI i)), none] : xL), ([] : List Value)))) (Inv := fun i => i ≤ kA σ 62 0) (μ := fun i => kA σ 62 0 - i) ?_ 0 (Nat.zero_le _)
    intro i hi ih
    dsimp only at ih ⊢
    refine x_iload_n hC dX20_init_158 (q := 159) rfl rfl ?_
    refine x_aloadr_n hC dX20_init_159 (q := 160) rfl rfl ?_
    refine x_callVN hC xv_X20_70 dX20_init_160 (q := 163) rfl rfl (m_X2_kilns h0 σ _) (nn := (0, 0)) rfl rfl rfl (Nat.le_of_ble_eq_true rfl) ⟨(Nat.le_of_ble_eq_true rfl), (Nat.le_of_ble_eq_true rfl)⟩ ⟨(Nat.le_of_ble_eq_true rfl), (Nat.le_of_ble_eq_true rfl)⟩ (fun v g1 hp => ?_)
    obtain ⟨rfl, hg1⟩ := hp
    replace hg1 := hg1.symm
    subst hg1
    refine x_icmp_ge hC dX20_init_163 (q := 166) rfl (tgt := 195) rfl (fun h163 => ?_) (fun h163 => ?_)
    · have hi3 : i = kA σ 62 0 := by
        have := hw.2.1
        have := (nI_leI (by omega) (by omega)).mp h163
        omega
      exact x_vret hC hr dX20_init_195 (Nat.le_of_ble_eq_true rfl) (Nat.le_of_ble_eq_true rfl) ⟨a_37, a_44, rfl, by rw [hi3]⟩
    have hi3 : i < kA σ 62 0 := Nat.lt_of_not_le (fun q => h163 (nI_le q (by have := hw.2.1; omega)))
    have hn3 := hw.2.1
    refine x_aloadr_n hC dX20_init_166 (q := 167) rfl rfl ?_
    refine x_get hC xf_X20_36_20 dX20_init_167 (q := 170) rfl (n := (48, 0)) rfl rfl ?_
    refine x_iload_n hC dX20_init_170 (q := 171) rfl rfl ?_
    refine x_aloadr_n hC dX20_init_171 (q := 172) rfl rfl ?_
    refine x_get hC xf_X20_22_1 dX20_init_172 (q := 175) rfl (n := (0, 0)) rfl rfl ?_
    refine x_get hC xf_X20_73_2 dX20_init_175 (q := 178) rfl (n := (3, 0)) rfl rfl ?_
    refine x_iload_n hC dX20_init_178 (q := 179) rfl rfl ?_
    refine x_callV hC xv_X20_46 dX20_init_179 (q := 182) rfl rfl (m_J3_get h0 _ (n := (6, 0)) (nd := (7, 0)) rfl (kg_7 (by have := hw.c62.1; omega)) (j := i) rfl (sz := kA σ 62 0) rfl hi3 hw.c62.1 (by have := hw.c62.2; omega)) (nn := (6, 0)) rfl rfl rfl (Nat.le_of_ble_eq_true rfl) ⟨(Nat.le_of_ble_eq_true rfl), (Nat.le_of_ble_eq_true rfl)⟩ ⟨(Nat.le_of_ble_eq_true rfl), (Nat.le_of_ble_eq_true rfl)⟩ (fun v g1 hp => ?_)
    rw [if_pos hi3] at hp
    obtain ⟨rfl, hg1⟩ := hp
    replace hg1 := hg1.symm
    subst hg1
    refine x_castS hC q1640 rfl dX20_init_182 (q := 185) rfl (n := (21, i)) (kg_21 i hi3) ?_
    refine x_get hC xf_X20_77_6 dX20_init_185 (q := 188) rfl (n := (21, i)) (kg_21 i hi3) rfl ?_
    refine x_iast hC dX20_init_188 (q := 189) rfl (n := (50, 0)) rfl rfl rfl (by omega) (by decide) ?_
    refine x_geq (g' := kmix σ (xu (xu (xu gF (49, 0) (some (a_37, xAi .int 40 (kWf σ (kA σ 61 0))))) (50, 0) (some (a_44, xAi .int 3 (upd (kHf σ i) i (iI (kI σ 41 i)))))) (48, 0) (some (a, xO 20 [.int (iI (kI σ 3 0)), .int (iI (kI σ 7 0)), .ref a_37, .ref a_44, .ref (kA σ 0 0), v5, v6])))) (by
      repeat rw [kmix_xuF _ _ _ _ rfl]
      first
        | rfl
        | (refine congrArg (kmix σ) ?_; funext k; simp only [xu]; (repeat' split) <;> first | rfl | simp_all)) ?_
    refine x_iinc hC dX20_init_189 (q := 192) rfl rfl (v := nI (i + 1)) (nI_1 i) ?_
    refine x_goto hC dX20_init_192 (tgt := 158) rfl ?_
    refine x_geq (g' := kmix σ (xu (xu (xu gF (49, 0) (some (a_37, xAi .int 40 (kWf σ (kA σ 61 0))))) (50, 0) (some (a_44, xAi .int 3 (kHf σ (i + 1))))) (48, 0) (some (a, xO 20 [.int (iI (kI σ 3 0)), .int (iI (kI σ 7 0)), .ref a_37, .ref a_44, .ref (kA σ 0 0), v5, v6])))) (by rw [kHf_step]) ?_
    exact ih (i + 1) (by omega) (by omega)
  have hi2 : i < kA σ 61 0 := Nat.lt_of_not_le (fun q => h56 (nI_le q (by have := hw.1; omega)))
  have hn8 := hw.1
  refine x_aloadr_n hC dX20_init_59 (q := 60) rfl rfl ?_
  refine x_get hC xf_X20_22_1 dX20_init_60 (q := 63) rfl (n := (0, 0)) rfl rfl ?_
  refine x_get hC xf_X20_43_2 dX20_init_63 (q := 66) rfl (n := (3, 0)) rfl rfl ?_
  refine x_iload_n hC dX20_init_66 (q := 67) rfl rfl ?_
  refine x_callV hC xv_X20_46 dX20_init_67 (q := 70) rfl rfl (m_J3_get h0 _ (n := (4, 0)) (nd := (5, 0)) rfl (kg_5 (by have := hw.c61.1; omega)) (j := i) rfl (sz := kA σ 61 0) rfl hi2 hw.c61.1 (by have := hw.c61.2; omega)) (nn := (4, 0)) rfl rfl rfl (Nat.le_of_ble_eq_true rfl) ⟨(Nat.le_of_ble_eq_true rfl), (Nat.le_of_ble_eq_true rfl)⟩ ⟨(Nat.le_of_ble_eq_true rfl), (Nat.le_of_ble_eq_true rfl)⟩ (fun v g1 hp => ?_)
  rw [if_pos hi2] at hp
  obtain ⟨rfl, hg1⟩ := hp
  replace hg1 := hg1.symm
  subst hg1
  refine x_castS hC q1637 rfl dX20_init_70 (q := 73) rfl (n := (20, i)) (kg_20 i hi2) ?_
  refine x_astorer_n hC dX20_init_73 (q := 74) rfl rfl ?_
  refine x_aloadr_n hC dX20_init_74 (q := 75) rfl rfl ?_
  refine x_get hC xf_X20_32_20 dX20_init_75 (q := 78) rfl (n := (48, 0)) rfl rfl ?_
  refine x_iconst hC dX20_init_78 (q := 79) rfl (v := (5)) (by decide) ?_
  refine x_iload_n hC dX20_init_79 (q := 80) rfl rfl ?_
  refine x_imul hC dX20_init_80 (q := 81) rfl ?_
  refine x_aloadr_n hC dX20_init_81 (q := 82) rfl rfl ?_
  refine x_callV hC xv_X20_54 dX20_init_82 (q := 85) rfl rfl (m_X8_kiln h0 σ _ hw i hi2) (nn := (20, i)) (kg_20 i hi2) rfl rfl (Nat.le_of_ble_eq_true rfl) ⟨(Nat.le_of_ble_eq_true rfl), (Nat.le_of_ble_eq_true rfl)⟩ ⟨(Nat.le_of_ble_eq_true rfl), (Nat.le_of_ble_eq_true rfl)⟩ (fun v g1 hp => ?_)
  obtain ⟨rfl, hg1⟩ := hp
  replace hg1 := hg1.symm
  subst hg1
  refine x_iast hC dX20_init_85 (q := 86) rfl (n := (49, 0)) rfl rfl (xi50 i) (by omega) (by decide) ?_
  refine x_geq (g' := kmix σ (xu (xu (xu gF (49, 0) (some (a_37, xAi .int 40 (upd (kWf σ i) (5 * i) (kKil σ i))))) (50, 0) (some (a_44, xAi .int 3 (fun _ => 0)))) (48, 0) (some (a, xO 20 [.int (iI (kI σ 3 0)), .int (iI (kI σ 7 0)), .ref a_37, .ref a_44, .ref (kA σ 0 0), v5, v6])))) (by
    repeat rw [kmix_xuF _ _ _ _ rfl]
    first
      | rfl
      | (refine congrArg (kmix σ) ?_; funext k; simp only [xu]; (repeat' split) <;> first | rfl | simp_all)) ?_
  refine x_aloadr_n hC dX20_init_86 (q := 87) rfl rfl ?_
  refine x_get hC xf_X20_32_20 dX20_init_87 (q := 90) rfl (n := (48, 0)) rfl rfl ?_
  refine x_iconst hC dX20_init_90 (q := 91) rfl (v := (5)) (by decide) ?_
  refine x_iload_n hC dX20_init_91 (q := 92) rfl rfl ?_
  refine x_imul hC dX20_init_92 (q := 93) rfl ?_
  refine x_iconst hC dX20_init_93 (q := 94) rfl (v := (1)) (by decide) ?_
  refine x_iadd hC dX20_init_94 (q := 95) rfl ?_
  refine x_aloadr_n hC dX20_init_95 (q := 96) rfl rfl ?_
  refine x_get hC xf_X20_57_5 dX20_init_96 (q := 99) rfl (n := (20, i)) (kg_20 i hi2) rfl ?_
  refine x_iast hC dX20_init_99 (q := 100) rfl (n := (49, 0)) rfl rfl (xi5 i 1) (by omega) (by decide) ?_
  refine x_geq (g' := kmix σ (xu (xu (xu gF (49, 0) (some (a_37, xAi .int 40 (upd (upd (kWf σ i) (5 * i) (kKil σ i)) (5 * i + 1) (iI (kI σ 33 i)))))) (50, 0) (some (a_44, xAi .int 3 (fun _ => 0)))) (48, 0) (some (a, xO 20 [.int (iI (kI σ 3 0)), .int (iI (kI σ 7 0)), .ref a_37, .ref a_44, .ref (kA σ 0 0), v5, v6])))) (by
    repeat rw [kmix_xuF _ _ _ _ rfl]
    first
      | rfl
      | (refine congrArg (kmix σ) ?_; funext k; simp only [xu]; (repeat' split) <;> first | rfl | simp_all)) ?_
  refine x_aloadr_n hC dX20_init_100 (q := 101) rfl rfl ?_
  refine x_get hC xf_X20_32_20 dX20_init_101 (q := 104) rfl (n := (48, 0)) rfl rfl ?_
  refine x_iconst hC dX20_init_104 (q := 105) rfl (v := (5)) (by decide) ?_
  refine x_iload_n hC dX20_init_105 (q := 106) rfl rfl ?_
  refine x_imul hC dX20_init_106 (q := 107) rfl ?_
  refine x_iconst hC dX20_init_107 (q := 108) rfl (v := (2)) (by decide) ?_
  refine x_iadd hC dX20_init_108 (q := 109) rfl ?_
  refine x_aloadr_n hC dX20_init_109 (q := 110) rfl rfl ?_
  refine x_get hC xf_X20_60_5 dX20_init_110 (q := 113) rfl (n := (20, i)) (kg_20 i hi2) rfl ?_
  refine x_iast hC dX20_init_113 (q := 114) rfl (n := (49, 0)) rfl rfl (xi5 i 2) (by omega) (by decide) ?_
  refine x_geq (g' := kmix σ (xu (xu (xu gF (49, 0) (some (a_37, xAi .int 40 (upd (upd (upd (kWf σ i) (5 * i) (kKil σ i)) (5 * i + 1) (iI (kI σ 33 i))) (5 * i + 2) (iI (kI σ 34 i)))))) (50, 0) (some (a_44, xAi .int 3 (fun _ => 0)))) (48, 0) (some (a, xO 20 [.int (iI (kI σ 3 0)), .int (iI (kI σ 7 0)), .ref a_37, .ref a_44, .ref (kA σ 0 0), v5, v6])))) (by
    repeat rw [kmix_xuF _ _ _ _ rfl]
    first
      | rfl
      | (refine congrArg (kmix σ) ?_; funext k; simp only [xu]; (repeat' split) <;> first | rfl | simp_all)) ?_
  refine x_aloadr_n hC dX20_init_114 (q := 115) rfl rfl ?_
  refine x_get hC xf_X20_32_20 dX20_init_115 (q := 118) rfl (n := (48, 0)) rfl rfl ?_
  refine x_iconst hC dX20_init_118 (q := 119) rfl (v := (5)) (by decide) ?_
  refine x_iload_n hC dX20_init_119 (q := 120) rfl rfl ?_
  refine x_imul hC dX20_init_120 (q := 121) rfl ?_
  refine x_iconst hC dX20_init_121 (q := 122) rfl (v := (3)) (by decide) ?_
  refine x_iadd hC dX20_init_122 (q := 123) rfl ?_
  refine x_aloadr_n hC dX20_init_123 (q := 124) rfl rfl ?_
  refine x_get hC xf_X20_63_5 dX20_init_124 (q := 127) rfl (n := (20, i)) (kg_20 i hi2) rfl ?_
  refine x_if_eq hC dX20_init_127 (q := 130) rfl (tgt := 134) rfl (fun h127 => ?_) (fun h127 => ?_)
  · refine x_iconst hC dX20_init_134 (q := 135) rfl (v := (0)) (by decide) ?_
    refine x_iast hC dX20_init_135 (q := 136) rfl (n := (49, 0)) rfl rfl (xi5 i 3) (by omega) (by decide) ?_
    refine x_geq (g' := kmix σ (xu (xu (xu gF (49, 0) (some (a_37, xAi .int 40 (upd (upd (upd (upd (kWf σ i) (5 * i) (kKil σ i)) (5 * i + 1) (iI (kI σ 33 i))) (5 * i + 2) (iI (kI σ 34 i))) (5 * i + 3) _)))) (50, 0) (some (a_44, xAi .int 3 (fun _ => 0)))) (48, 0) (some (a, xO 20 [.int (iI (kI σ 3 0)), .int (iI (kI σ 7 0)), .ref a_37, .ref a_44, .ref (kA σ 0 0), v5, v6])))) (by
      repeat rw [kmix_xuF _ _ _ _ rfl]
      first
        | rfl
        | (refine congrArg (kmix σ) ?_; funext k; simp only [xu]; (repeat' split) <;> first | rfl | simp_all)) ?_
    refine x_aloadr_n hC dX20_init_136 (q := 137) rfl rfl ?_
    refine x_get hC xf_X20_32_20 dX20_init_137 (q := 140) rfl (n := (48, 0)) rfl rfl ?_
    refine x_iconst hC dX20_init_140 (q := 141) rfl (v := (5)) (by decide) ?_
    refine x_iload_n hC dX20_init_141 (q := 142) rfl rfl ?_
    refine x_imul hC dX20_init_142 (q := 143) rfl ?_
    refine x_iconst hC dX20_init_143 (q := 144) rfl (v := (4)) (by decide) ?_
    refine x_iadd hC dX20_init_144 (q := 145) rfl ?_
    refine x_aloadr_n hC dX20_init_145 (q := 146) rfl rfl ?_
    refine x_get hC xf_X20_67_5 dX20_init_146 (q := 149) rfl (n := (20, i)) (kg_20 i hi2) rfl ?_
    refine x_iast hC dX20_init_149 (q := 150) rfl (n := (49, 0)) rfl rfl (xi5 i 4) (by omega) (by decide) ?_
    refine x_geq (g' := kmix σ (xu (xu (xu gF (49, 0) (some (a_37, xAi .int 40 (upd (upd (upd (upd (upd (kWf σ i) (5 * i) (kKil σ i)) (5 * i + 1) (iI (kI σ 33 i))) (5 * i + 2) (iI (kI σ 34 i))) (5 * i + 3) _) (5 * i + 4) (iI (kI σ 35 i)))))) (50, 0) (some (a_44, xAi .int 3 (fun _ => 0)))) (48, 0) (some (a, xO 20 [.int (iI (kI σ 3 0)), .int (iI (kI σ 7 0)), .ref a_37, .ref a_44, .ref (kA σ 0 0), v5, v6])))) (by
      repeat rw [kmix_xuF _ _ _ _ rfl]
      first
        | rfl
        | (refine congrArg (kmix σ) ?_; funext k; simp only [xu]; (repeat' split) <;> first | rfl | simp_all)) ?_
    refine x_iinc hC dX20_init_150 (q := 153) rfl rfl (v := nI (i + 1)) (nI_1 i) ?_
    refine x_goto hC dX20_init_153 (tgt := 51) rfl ?_
    refine x_geq (g' := kmix σ (xu (xu (xu gF (49, 0) (some (a_37, xAi .int 40 (kWf σ (i + 1))))) (50, 0) (some (a_44, xAi .int 3 (fun _ => 0)))) (48, 0) (some (a, xO 20 [.int (iI (kI σ 3 0)), .int (iI (kI σ 7 0)), .ref a_37, .ref a_44, .ref (kA σ 0 0), v5, v6])))) (by rw [kWf_step (by first | rw [if_pos h127] | rw [if_neg h127])]) ?_
    refine x_lvle (lv' := [some (.ref a), some (.ref (kA σ 0 0)), some (.int (nI (i + 1))), none]) (by repeat' constructor) ?_
    exact ih (i + 1) (by omega) (by omega)
  refine x_iconst hC dX20_init_130 (q := 131) rfl (v := (1)) (by decide) ?_
  refine x_goto hC dX20_init_131 (tgt := 135) rfl ?_
  refine x_iast hC dX20_init_135 (q := 136) rfl (n := (49, 0)) rfl rfl (xi5 i 3) (by omega) (by decide) ?_
  refine x_geq (g' := kmix σ (xu (xu (xu gF (49, 0) (some (a_37, xAi .int 40 (upd (upd (upd (upd (kWf σ i) (5 * i) (kKil σ i)) (5 * i + 1) (iI (kI σ 33 i))) (5 * i + 2) (iI (kI σ 34 i))) (5 * i + 3) _)))) (50, 0) (some (a_44, xAi .int 3 (fun _ => 0)))) (48, 0) (some (a, xO 20 [.int (iI (kI σ 3 0)), .int (iI (kI σ 7 0)), .ref a_37, .ref a_44, .ref (kA σ 0 0), v5, v6])))) (by
    repeat rw [kmix_xuF _ _ _ _ rfl]
    first
      | rfl
      | (refine congrArg (kmix σ) ?_; funext k; simp only [xu]; (repeat' split) <;> first | rfl | simp_all)) ?_
  refine x_aloadr_n hC dX20_init_136 (q := 137) rfl rfl ?_
  refine x_get hC xf_X20_32_20 dX20_init_137 (q := 140) rfl (n := (48, 0)) rfl rfl ?_
  refine x_iconst hC dX20_init_140 (q := 141) rfl (v := (5)) (by decide) ?_
  refine x_iload_n hC dX20_init_141 (q := 142) rfl rfl ?_
  refine x_imul hC dX20_init_142 (q := 143) rfl ?_
  refine x_iconst hC dX20_init_143 (q := 144) rfl (v := (4)) (by decide) ?_
  refine x_iadd hC dX20_init_144 (q := 145) rfl ?_
  refine x_aloadr_n hC dX20_init_145 (q := 146) rfl rfl ?_
  refine x_get hC xf_X20_67_5 dX20_init_146 (q := 149) rfl (n := (20, i)) (kg_20 i hi2) rfl ?_
  refine x_iast hC dX20_init_149 (q := 150) rfl (n := (49, 0)) rfl rfl (xi5 i 4) (by omega) (by decide) ?_
  refine x_geq (g' := kmix σ (xu (xu (xu gF (49, 0) (some (a_37, xAi .int 40 (upd (upd (upd (upd (upd (kWf σ i) (5 * i) (kKil σ i)) (5 * i + 1) (iI (kI σ 33 i))) (5 * i + 2) (iI (kI σ 34 i))) (5 * i + 3) _) (5 * i + 4) (iI (kI σ 35 i)))))) (50, 0) (some (a_44, xAi .int 3 (fun _ => 0)))) (48, 0) (some (a, xO 20 [.int (iI (kI σ 3 0)), .int (iI (kI σ 7 0)), .ref a_37, .ref a_44, .ref (kA σ 0 0), v5, v6])))) (by
    repeat rw [kmix_xuF _ _ _ _ rfl]
    first
      | rfl
      | (refine congrArg (kmix σ) ?_; funext k; simp only [xu]; (repeat' split) <;> first | rfl | simp_all)) ?_
  refine x_iinc hC dX20_init_150 (q := 153) rfl rfl (v := nI (i + 1)) (nI_1 i) ?_
  refine x_goto hC dX20_init_153 (tgt := 51) rfl ?_
  refine x_geq (g' := kmix σ (xu (xu (xu gF (49, 0) (some (a_37, xAi .int 40 (kWf σ (i + 1))))) (50, 0) (some (a_44, xAi .int 3 (fun _ => 0)))) (48, 0) (some (a, xO 20 [.int (iI (kI σ 3 0)), .int (iI (kI σ 7 0)), .ref a_37, .ref a_44, .ref (kA σ 0 0), v5, v6])))) (by rw [kWf_step (by first | rw [if_pos h127] | rw [if_neg h127])]) ?_
  refine x_lvle (lv' := [some (.ref a), some (.ref (kA σ 0 0)), some (.int (nI (i + 1))), none]) (by repeat' constructor) ?_
  exact ih (i + 1) (by omega) (by omega)
