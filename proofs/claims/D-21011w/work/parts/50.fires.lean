/-! Bench.fires -/
section XAO
variable {p : Program} {l : Launch} {e : Env} {R : Room} {s : State} {m : MethodId} {args : Array Value} {below : List Frame} {meth : Method} {c : Code} {s0 : State} {D : va_G} {Q : State → Prop} {cells slots : Nat} {g : xG} {pc q : Nat} {lv : xL} {st : List Value} {own : String} {cc : ByteArray}
/-- a store of a reference that may be null -/
theorem x_aasto (hC : xC p l s0 s D m args meth c own cc) {n : xN} {a N j : Nat} {i : Int32} {C : String} {f : Nat → Option Nat} {r : Option Nat} (d : decode cc pc = .ok (.aastore, 1)) (hq : pc + 1 = q) (hdy : Nat.blt n.1 1000 = true) (hg : g n = some (a, xAr (.object C) N f)) (hv : ∀ v, r = some v → ∃ (n2 : xN) (x : xE), Nat.blt n2.1 1000 = true ∧ g n2 = some (v, x) ∧ (Cond.castable (xnm x) C ∈ lw_tbl ∨ (∃ o, x = .inr o) ∧ xnm x = C)) (hi : i = nI j) (hj : j < N) (hN : N < 2 ^ 31) (k : XW p l e R s m args below meth c s0 D Q cells slots (xu g n (some (a, xAr (.object C) N (va_up f j r)))) q lv st) : XW p l e R s m args below meth c s0 D Q cells slots g pc lv (va_rf r :: .int i :: .ref a :: st) := by
  cases r with
  | none => exact x_aastn hC d hq hdy hg hi hj hN k
  | some v =>
    obtain ⟨n2, x, h1, h2, h3⟩ := hv v rfl
    exact x_aast hC d hq hdy hg h1 h2 h3 hi hj hN k
end XAO
/-- the first n places of a kiln, as an array of children -/
def kWs (σ : KS) (kq n : Nat) : Nat → Option Nat := fun j => if j < n then (kO σ 1 kq j).map (kA σ 20) else none
theorem kWs_0 (σ : KS) (kq : Nat) : kWs σ kq 0 = fun _ => none := by
  funext j
  exact if_neg (Nat.not_lt_zero j)
theorem kWs_lt {σ : KS} {kq n j : Nat} (h : j < n) : kWs σ kq n j = (kO σ 1 kq j).map (kA σ 20) := if_pos h
theorem kWs_step (σ : KS) (kq n : Nat) : va_up (kWs σ kq n) n ((kO σ 1 kq n).map (kA σ 20)) = kWs σ kq (n + 1) := by
  funext j
  unfold va_up kWs
  by_cases e : j = n
  · subst e; rw [if_pos rfl, if_pos (by omega)]
  · rw [if_neg e]
    by_cases h : j < n
    · rw [if_pos h, if_pos (by omega)]
    · rw [if_neg h, if_neg (by omega)]
theorem kBF_xu60 {gF : xG} {a aT aC kl : Nat} {h : Int32} {o : Nat} {t k : Nat → Nat → Int32} {x : Option (Nat × xE)} : xu (kBF gF a aT aC kl h o t k) (60, 0) x = kBF (xu gF (60, 0) x) a aT aC kl h o t k := by
  funext n
  by_cases e : n = (60, 0)
  · subst e; rw [xu_eq]; simp [kBF, xu_eq]
  · rw [xu_ne e]; unfold kBF; rw [xu_ne e]
theorem kNB_60 {gF : xG} (h : kNB gF) (x : Option (Nat × xE)) : kNB (xu gF (60, 0) x) := fun n h1 h2 => by
  rw [xu_ne (fun q => by rw [q] at h2; exact absurd h2 (by decide))]; exact h n h1 h2
theorem x60_sub {gF : xG} (h : gF (60, 0) = none) (y : Option (Nat × xE)) (n : xN) (x : Nat × xE) (hx : gF n = some x) : xu gF (60, 0) y n = some x := by
  rw [xu_ne (fun q => by rw [q, h] at hx; cases hx)]; exact hx
/-- two stick -/
def kStk (τ : KS) (c d : Nat) : KS := kIs (kIs τ 35 c (iI (kI τ 35 c) ||| ((1 : Int32) <<< (nI d &&& 31))).toInt) 35 d (iI (kI (kIs τ 35 c (iI (kI τ 35 c) ||| ((1 : Int32) <<< (nI d &&& 31))).toInt) 35 d) ||| ((1 : Int32) <<< (nI c &&& 31))).toInt
/-- the child of a place sticks to the next one, if it does -/
def kFs (F : Nat → Option (aEnv → Int64)) (σ : KS) (kq : Nat) (hh : Int32) (t : Nat → Nat → Int32) (τ : KS) (p c : Nat) : KS := match kNx σ kq p with
  | none => τ
  | some d => if kStick F τ c (t c p) d (t d (p + 1)) hh = 0 then τ else kStk τ c d
/-- a place of a firing -/
def kFr1 (F : Nat → Option (aEnv → Int64)) (σ : KS) (kq : Nat) (hh : Int32) (t k : Nat → Nat → Int32) (τ : KS) (p : Nat) : KS := match kO σ 1 kq p with
  | none => τ
  | some c => kGo (kIs (kIs (kFs F σ kq hh t τ p c) 34 c (t c p).toInt) 36 c (k c p).toInt) c
def kFrN (F : Nat → Option (aEnv → Int64)) (σ : KS) (kq : Nat) (hh : Int32) (t k : Nat → Nat → Int32) : Nat → KS
  | 0 => σ
  | n + 1 => kFr1 F σ kq hh t k (kFrN F σ kq hh t k n) n
/-- how many crack in the first places -/
def kCk (σ : KS) (kq : Nat) (k : Nat → Nat → Int32) : Nat → Nat
  | 0 => 0
  | n + 1 => kCk σ kq k n + (match kO σ 1 kq n with
    | none => 0
    | some c => if k c n = 0 then 0 else 1)
theorem fit01 {x : Int32} (h : x = 0 ∨ x = 1) : fits .boolean (.int x) = true := by rcases h with rfl | rfl <;> rfl
theorem kA_kStk (τ : KS) (c d : Nat) : kA (kStk τ c d) = kA τ := rfl
section KFR
variable {F : Nat → Option (aEnv → Int64)} {σ : KS} {kq : Nat} {hh : Int32} {t k : Nat → Nat → Int32}
theorem kA_kFs (τ : KS) (p c : Nat) : kA (kFs F σ kq hh t τ p c) = kA τ := by
  unfold kFs
  split
  · rfl
  · split <;> rfl
theorem kO_kFs (τ : KS) (p c : Nat) : kO (kFs F σ kq hh t τ p c) = kO τ := by
  unfold kFs
  split
  · rfl
  · split <;> rfl
theorem KV_kIs {τ : KS} (h : KV τ) {f : Nat} (hf : f ≠ 33) (i : Nat) (z : Int) : KV (kIs τ f i z) := by
  refine ⟨h.1, fun c q hc hq => ?_⟩
  obtain ⟨pl, p1, p2⟩ := h.2 c q hc hq
  refine ⟨pl, p1, ?_⟩
  rw [kI_kIs, if_neg (fun q => hf q.1.symm)]
  exact p2
theorem kFs_V {τ : KS} (h : KV τ) (p c : Nat) : KV (kFs F σ kq hh t τ p c) := by
  unfold kFs
  split
  · exact h
  · split
    · exact h
    · exact KV_kIs (KV_kIs h (by decide) _ _) (by decide) _ _
theorem kA_kFrN : ∀ n, kA (kFrN F σ kq hh t k n) = kA σ := by
  intro n
  induction n with
  | zero => rfl
  | succ n ih =>
    show kA (kFr1 F σ kq hh t k (kFrN F σ kq hh t k n) n) = _
    unfold kFr1
    split
    · exact ih
    · rw [kA_kGo, kA_kIs, kA_kIs, kA_kFs, ih]
theorem kFrN_V (h : KV σ) : ∀ n, KV (kFrN F σ kq hh t k n) := by
  intro n
  induction n with
  | zero => exact h
  | succ n ih =>
    show KV (kFr1 F σ kq hh t k (kFrN F σ kq hh t k n) n)
    unfold kFr1
    split
    · exact ih
    · exact kGo_V (KV_kIs (KV_kIs (kFs_V ih _ _) (by decide) _ _) (by decide) _ _) _
theorem kFrN_n {p : Nat} (h : kO σ 1 kq p = none) : kFrN F σ kq hh t k (p + 1) = kFrN F σ kq hh t k p := by
  show kFr1 F σ kq hh t k (kFrN F σ kq hh t k p) p = _
  unfold kFr1
  rw [h]
theorem kFrN_s {p c : Nat} (h : kO σ 1 kq p = some c) : kFrN F σ kq hh t k (p + 1) = kGo (kIs (kIs (kFs F σ kq hh t (kFrN F σ kq hh t k p) p c) 34 c (t c p).toInt) 36 c (k c p).toInt) c := by
  show kFr1 F σ kq hh t k (kFrN F σ kq hh t k p) p = _
  unfold kFr1
  rw [h]
theorem kO2_kGo (τ : KS) (c j : Nat) : kO (kGo τ c) 2 j = kO τ 2 j := by
  funext i
  unfold kGo
  split <;> simp [kO_kIs, kO_kOs]
theorem kO2_kFrN : ∀ n j, kO (kFrN F σ kq hh t k n) 2 j = kO σ 2 j := by
  intro n
  induction n with
  | zero => intro j; rfl
  | succ n ih =>
    intro j
    show kO (kFr1 F σ kq hh t k (kFrN F σ kq hh t k n) n) 2 j = _
    unfold kFr1
    split
    · exact ih j
    · rw [kO2_kGo, kO_kIs, kO_kIs, kO_kFs, ih]
theorem kF_on {gF : xG} {τ : KS} (h : kF gF σ F) (ho : ∀ j, kO τ 2 j = kO σ 2 j) : kF gF τ F := fun j hj => by rw [ho j]; exact h j hj
theorem kGo_kT (τ : KS) (f : aEnv) (c : Nat) : kGo (kT τ f) c = kT (kGo τ c) f := by
  show (match kO τ 0 c 0 with | none => _ | some q => _) = kT (match kO τ 0 c 0 with | none => _ | some q => _) f
  cases kO τ 0 c 0 <;> rfl
theorem kFs_a {τ : KS} {p c : Nat} (h : kNx σ kq p = none) : kFs F σ kq hh t τ p c = τ := by unfold kFs; rw [h]
theorem kFs_b {τ : KS} {p c d : Nat} (h : kNx σ kq p = some d) (h2 : kStick F τ c (t c p) d (t d (p + 1)) hh = 0) : kFs F σ kq hh t τ p c = τ := by unfold kFs; rw [h]; exact if_pos h2
theorem kFs_c {τ : KS} {p c d : Nat} (h : kNx σ kq p = some d) (h2 : ¬ kStick F τ c (t c p) d (t d (p + 1)) hh = 0) : kFs F σ kq hh t τ p c = kStk τ c d := by unfold kFs; rw [h]; exact if_neg h2
theorem kCk_n {p : Nat} (h : kO σ 1 kq p = none) : kCk σ kq k (p + 1) = kCk σ kq k p := by
  show kCk σ kq k p + _ = _
  rw [h]
  rfl
theorem kCk_0 {p c : Nat} (h : kO σ 1 kq p = some c) (h2 : k c p = 0) : kCk σ kq k (p + 1) = kCk σ kq k p := by
  show kCk σ kq k p + _ = _
  rw [h]
  simp [h2]
theorem kCk_1 {p c : Nat} (h : kO σ 1 kq p = some c) (h2 : ¬ k c p = 0) : kCk σ kq k (p + 1) = kCk σ kq k p + 1 := by
  show kCk σ kq k p + _ = _
  rw [h]
  simp [h2]
end KFR
/-- all of a firing -/
def kFire (F : Nat → Option (aEnv → Int64)) (σ : KS) (kq : Nat) (hh : Int32) (t k : Nat → Nat → Int32) : KS := kIs (kFrN F σ kq hh t k (kA σ 25 kq)) 41 kq (-1)

theorem kmix_sub {σ : KS} {gF gF' : xG} (h : ∀ n x, gF n = some x → gF' n = some x) (n : xN) (x : Nat × xE) (hx : kmix σ gF n = some x) : kmix σ gF' n = some x := by
  unfold kmix at hx ⊢
  split at hx
  · exact hx
  · exact h n x hx

set_option maxHeartbeats 4000000 in
set_option maxRecDepth 100000 in
theorem m_X21_fires {l : Launch} {s0 : State} {D : va_G} (h0 : x0 l s0 D) (σ : KS) (gF : xG) (f : aEnv) {F : Nat → Option (aEnv → Int64)} (hF : kF gF σ F) (hv : KV σ) (hNB : kNB gF) (h60 : gF (60, 0) = none) {a aT aC kq : Nat} (hq : kq < kA σ 62 0) {hh : Int32} {t k : Nat → Nat → Int32} (hk01 : ∀ c p, k c p = 0 ∨ k c p = 1) : xMet l s0 D yX21_fires cX21_fires 6 (some .int) (xr 39 1 6 1700) [.ref a] (kmix (kT σ f) (kBF gF a aT aC (kA σ 21 kq) hh (kA σ 0 0) t k)) (fun r g1 => ∃ f1, r = some (.int (nI (kCk σ kq k (kA σ 25 kq)))) ∧ g1 = kmix (kT (kFire F σ kq hh t k) f1) gF) := by
  have hw := hv.1
  refine xMet.of h0 (by decide +kernel) rfl ?_
  intro p e s m args below meth c hC hr hnm
  refine x_bipush hC dX21_fires_0 (q := 2) rfl (v := (6)) (by decide) ?_
  refine x_anew hC (N := 6) (60, 0) q1678 q761 dX21_fires_2 (q := 5) rfl rfl h60 rfl (by decide) (Nat.le_of_ble_eq_true rfl) (Nat.le_of_ble_eq_true rfl) (fun a_2 => ?_)
  refine x_geq (g' := kmix (kT σ f) (kBF (xu gF (60, 0) (some (a_2, xAr (.object "KilnBench$Child") 6 (kWs σ kq 0)))) a aT aC (kA σ 21 kq) hh (kA σ 0 0) t k)) (by rw [kmix_xuF _ _ _ _ rfl, kBF_xu60, kWs_0]) ?_
  refine x_astorer_n hC dX21_fires_5 (q := 6) rfl rfl ?_
  refine x_iconst hC dX21_fires_6 (q := 7) rfl (v := (0)) (by decide) ?_
  refine x_istore_n hC dX21_fires_7 (q := 8) rfl rfl ?_
  have hr6 := hw.2.2.2.1 kq hq
  refine x_loop (S := (fun i : Nat => ((1 : Nat), (6 : Nat), kmix (kT σ f) (kBF (xu gF (60, 0) (some (a_2, xAr (.object "KilnBench$Child") 6 (kWs σ kq i)))) a aT aC (kA σ 21 kq) hh (kA σ 0 0) t k), ([some (.ref a), some (.ref a_2), some (.int (nI i)), none, none, none] : xL), ([] : List Value)))) (Inv := fun i => i ≤ (kA σ 25 kq)) (μ := fun i => (kA σ 25 kq) - i) ?_ 0 (Nat.zero_le _)
  intro p1 hi ih
  dsimp only at hi ih ⊢
  refine x_iload_n hC dX21_fires_8 (q := 9) rfl rfl ?_
  refine x_aloadr_n hC dX21_fires_9 (q := 10) rfl rfl ?_
  refine x_get hC xf_X21_25_18 dX21_fires_10 (q := 13) rfl (n := (55, 0)) rfl rfl ?_
  refine x_get hC xf_X21_55_6 dX21_fires_13 (q := 16) rfl (n := (21, kq)) (kg_21 (σ := (kT σ f)) kq hq) rfl ?_
  refine x_icmp_ge hC dX21_fires_16 (q := 19) rfl (tgt := 37) rfl (fun h16 => ?_) (fun h16 => ?_)
  · have hp3 : p1 = (kA σ 25 kq) := by
      have h2 : nI (kA σ 25 kq) ≤ nI p1 := h16
      have := (nI_leI (by omega) (by omega)).mp h2
      omega
    clear ih
    rw [hp3]
    clear hp3 hi h16 p1
    refine x_iconst hC dX21_fires_37 (q := 38) rfl (v := (0)) (by decide) ?_
    refine x_istore_n hC dX21_fires_38 (q := 39) rfl rfl ?_
    refine x_iconst hC dX21_fires_39 (q := 40) rfl (v := (0)) (by decide) ?_
    refine x_istore_n hC dX21_fires_40 (q := 41) rfl rfl ?_
    refine x_loop (S := (fun i : Nat × aEnv => ((1 : Nat), (6 : Nat), kmix (kT (kOn σ (kFrN F σ kq hh t k i.1)) i.2) (kBF (xu gF (60, 0) (some (a_2, xAr (.object "KilnBench$Child") 6 (kWs σ kq (kA σ 25 kq))))) a aT aC (kA σ 21 kq) hh (kA σ 0 0) t k), ([some (.ref a), some (.ref a_2), some (.int (nI (kCk σ kq k i.1))), some (.int (nI i.1)), none, none] : xL), ([] : List Value)))) (Inv := fun i => i.1 ≤ (kA σ 25 kq)) (μ := fun i => (kA σ 25 kq) - i.1) ?_ (0, f) (Nat.zero_le _)
    intro ⟨p1, f2⟩ hi ih
    dsimp only at hi ih ⊢
    refine x_iload_n hC dX21_fires_41 (q := 42) rfl rfl ?_
    refine x_aloadr_n hC dX21_fires_42 (q := 43) rfl rfl ?_
    refine x_get hC xf_X21_25_18 dX21_fires_43 (q := 46) rfl (n := (55, 0)) rfl rfl ?_
    refine x_get hC xf_X21_55_6 dX21_fires_46 (q := 49) rfl (n := (21, kq)) (kg_21 (σ := (kT (kOn σ (kFrN F σ kq hh t k p1)) f2)) kq hq) rfl ?_
    refine x_icmp_ge hC dX21_fires_49 (q := 52) rfl (tgt := 202) rfl (fun h49 => ?_) (fun h49 => ?_)
    · have hp3 : p1 = (kA σ 25 kq) := by
        have h2 : nI (kA σ 25 kq) ≤ nI p1 := h49
        have := (nI_leI (by omega) (by omega)).mp h2
        omega
      clear ih
      rw [hp3]
      clear hp3 hi h49 p1
      refine x_aloadr_n hC dX21_fires_202 (q := 203) rfl rfl ?_
      refine x_get hC xf_X21_25_18 dX21_fires_203 (q := 206) rfl (n := (55, 0)) rfl rfl ?_
      refine x_iconst hC dX21_fires_206 (q := 207) rfl (v := (-1)) (by decide) ?_
      refine x_put hC (n := (21, kq)) xf_X21_95_6 xd_6 rfl dX21_fires_207 (q := 210) rfl (kg_21 (σ := (kT (kOn σ (kFrN F σ kq hh t k (kA σ 25 kq))) f2)) kq hq) rfl rfl rfl ?_
      refine x_geq (g' := kmix (kT (kFire F σ kq hh t k) f2) (kBF (xu gF (60, 0) (some (a_2, xAr (.object "KilnBench$Child") 6 (kWs σ kq (kA σ 25 kq))))) a aT aC (kA σ 21 kq) hh (kA σ 0 0) t k)) ((kf_heat (σ := kT (kOn σ (kFrN F σ kq hh t k (kA σ 25 kq))) f2) (z := -1) rfl hq).trans (by rw [kOn_eq (σ := σ) (τ := kFrN F σ kq hh t k (kA σ 25 kq)) (by rw [kA_kFrN])]; rfl)) ?_
      refine x_sub (g' := kmix (kT (kFire F σ kq hh t k) f2) gF) (kmix_sub (fun n x hx => kBF_sub (kNB_60 hNB _) n x (x60_sub h60 _ n x hx))) ?_
      refine x_iload_n hC dX21_fires_210 (q := 211) rfl rfl ?_
      exact x_iret hC hr dX21_fires_211 (Nat.le_of_ble_eq_true rfl) (Nat.le_of_ble_eq_true rfl) ⟨f2, rfl, rfl⟩
    have hp2 : p1 < (kA σ 25 kq) := Nat.lt_of_not_le (fun q => h49 (nI_le q (by omega)))
    refine x_aloadr_n hC dX21_fires_52 (q := 53) rfl rfl ?_
    refine x_iload_n hC dX21_fires_53 (q := 54) rfl rfl ?_
    refine x_aald hC dX21_fires_54 (q := 55) rfl (n := (60, 0)) rfl (j := p1) rfl (by omega) (by decide) rfl ?_
    refine x_steq (st1 := [va_rf ((kO σ 1 kq p1).map (kA σ 20))]) (by rw [kWs_lt hp2]) ?_
    refine x_astore hC dX21_fires_55 (q := 57) rfl rfl (va_rf_or _) ?_
    refine x_aload hC dX21_fires_57 (q := 59) rfl rfl (va_rf_or _) ?_
    refine x_ifnonnull hC dX21_fires_59 (q := 62) rfl (tgt := 65) rfl (fun a59 h59 => ?_) (fun h59 => ?_)
    · obtain ⟨c1, hc1⟩ := omap h59
      have hcl := hw.2.2.2.2.2 kq p1 c1 hq hc1
      have hcl8 : c1 < 8 := by have := hw.1; omega
      refine x_lvle (lv' := [some (.ref a), some (.ref a_2), some (.int (nI (kCk σ kq k p1))), some (.int (nI p1)), some (.ref (kA σ 20 c1)), none]) (by rw [hc1]; repeat' constructor) ?_
      refine x_cut 146 (fun i : aEnv => ((1 : Nat), (6 : Nat), kmix (kT (kOn σ (kFs F σ kq hh t (kFrN F σ kq hh t k p1) p1 c1)) i) (kBF (xu gF (60, 0) (some (a_2, xAr (.object "KilnBench$Child") 6 (kWs σ kq (kA σ 25 kq))))) a aT aC (kA σ 21 kq) hh (kA σ 0 0) t k), ([some (.ref a), some (.ref a_2), some (.int (nI (kCk σ kq k p1))), some (.int (nI p1)), some (.ref (kA σ 20 c1)), none] : xL), ([] : List Value))) (fun _ => True) ?_ (fun hcut => ?_)
      · intro f4 _
        dsimp only
        refine x_aloadr hC dX21_fires_146 (q := 148) rfl rfl ?_
        refine x_aloadr_n hC dX21_fires_148 (q := 149) rfl rfl ?_
        refine x_get hC xf_X21_17_18 dX21_fires_149 (q := 152) rfl (n := (55, 0)) rfl rfl ?_
        refine x_aloadr hC dX21_fires_152 (q := 154) rfl rfl ?_
        refine x_get hC xf_X21_76_5 dX21_fires_154 (q := 157) rfl (n := (20, c1)) (kg_20 (σ := (kT (kOn σ (kFs F σ kq hh t (kFrN F σ kq hh t k p1) p1 c1)) f4)) c1 hcl) rfl ?_
        refine x_aald hC dX21_fires_157 (q := 158) rfl (n := (56, 0)) rfl (j := c1) rfl hcl8 (by decide) rfl ?_
        refine x_iload_n hC dX21_fires_158 (q := 159) rfl rfl ?_
        refine x_iald hC dX21_fires_159 (q := 160) rfl (n := (57, c1)) (kBF_57 hcl8) (j := p1) rfl (by omega) (by decide) ?_
        refine x_put hC (n := (20, c1)) xf_X21_85_5 xd_5 rfl dX21_fires_160 (q := 163) rfl (kg_20 (σ := (kT (kOn σ (kFs F σ kq hh t (kFrN F σ kq hh t k p1) p1 c1)) f4)) c1 hcl) rfl rfl rfl ?_
        refine x_geq (g' := kmix (kT (kIs (kOn σ (kFs F σ kq hh t (kFrN F σ kq hh t k p1) p1 c1)) 34 c1 (t c1 p1).toInt) f4) (kBF (xu gF (60, 0) (some (a_2, xAr (.object "KilnBench$Child") 6 (kWs σ kq (kA σ 25 kq))))) a aT aC (kA σ 21 kq) hh (kA σ 0 0) t k)) (kf_temper (σ := (kT (kOn σ (kFs F σ kq hh t (kFrN F σ kq hh t k p1) p1 c1)) f4)) (z := (t c1 p1).toInt) (iI_self _).symm hcl) ?_
        refine x_aloadr hC dX21_fires_163 (q := 165) rfl rfl ?_
        refine x_aloadr_n hC dX21_fires_165 (q := 166) rfl rfl ?_
        refine x_get hC xf_X21_22_18 dX21_fires_166 (q := 169) rfl (n := (55, 0)) rfl rfl ?_
        refine x_aloadr hC dX21_fires_169 (q := 171) rfl rfl ?_
        refine x_get hC xf_X21_76_5 dX21_fires_171 (q := 174) rfl (n := (20, c1)) (kg_20 (σ := (kT (kIs (kOn σ (kFs F σ kq hh t (kFrN F σ kq hh t k p1) p1 c1)) 34 c1 (t c1 p1).toInt) f4)) c1 hcl) rfl ?_
        refine x_aald hC dX21_fires_174 (q := 175) rfl (n := (58, 0)) rfl (j := c1) rfl hcl8 (by decide) rfl ?_
        refine x_iload_n hC dX21_fires_175 (q := 176) rfl rfl ?_
        refine x_zald hC dX21_fires_176 (q := 177) rfl (n := (59, c1)) (kBF_59 hcl8) (j := p1) rfl (by omega) (by decide) ?_
        refine x_put hC (n := (20, c1)) xf_X21_88_5 xd_5 rfl dX21_fires_177 (q := 180) rfl (kg_20 (σ := (kT (kIs (kOn σ (kFs F σ kq hh t (kFrN F σ kq hh t k p1) p1 c1)) 34 c1 (t c1 p1).toInt) f4)) c1 hcl) rfl (nar32 (hk01 c1 p1)) (fit01 (hk01 c1 p1)) ?_
        refine x_geq (g' := kmix (kT (kIs (kIs (kOn σ (kFs F σ kq hh t (kFrN F σ kq hh t k p1) p1 c1)) 34 c1 (t c1 p1).toInt) 36 c1 (k c1 p1).toInt) f4) (kBF (xu gF (60, 0) (some (a_2, xAr (.object "KilnBench$Child") 6 (kWs σ kq (kA σ 25 kq))))) a aT aC (kA σ 21 kq) hh (kA σ 0 0) t k)) (kf_cracked (σ := (kT (kIs (kOn σ (kFs F σ kq hh t (kFrN F σ kq hh t k p1) p1 c1)) 34 c1 (t c1 p1).toInt) f4)) (z := (k c1 p1).toInt) (iI_self _).symm hcl) ?_
        refine x_aloadr hC dX21_fires_180 (q := 182) rfl rfl ?_
        refine x_get hC xf_X21_88_5 dX21_fires_182 (q := 185) rfl (n := (20, c1)) (kg_20 (σ := (kT (kIs (kIs (kOn σ (kFs F σ kq hh t (kFrN F σ kq hh t k p1) p1 c1)) 34 c1 (t c1 p1).toInt) 36 c1 (k c1 p1).toInt) f4)) c1 hcl) rfl ?_
        refine x_if_eq hC dX21_fires_185 (q := 188) rfl (tgt := 191) rfl (fun h185 => ?_) (fun h185 => ?_)
        · have hkz : k c1 p1 = 0 := by
            have e : iI (kI (kIs (kIs (kOn σ (kFs F σ kq hh t (kFrN F σ kq hh t k p1) p1 c1)) 34 c1 (t c1 p1).toInt) 36 c1 (k c1 p1).toInt) 36 c1) = 0 := h185
            rw [kI_kIs, if_pos ⟨rfl, rfl⟩, iI_self] at e
            exact e
          have hKVf : KV (kIs (kIs (kOn σ (kFs F σ kq hh t (kFrN F σ kq hh t k p1) p1 c1)) 34 c1 (t c1 p1).toInt) 36 c1 (k c1 p1).toInt) := by
            rw [kOn_eq (σ := σ) (τ := (kFs F σ kq hh t (kFrN F σ kq hh t k p1) p1 c1)) (by rw [kA_kFs, kA_kFrN])]
            exact KV_kIs (KV_kIs (kFs_V (kFrN_V hv _) _ _) (by decide) _ _) (by decide) _ _
          refine x_aloadr hC dX21_fires_191 (q := 193) rfl rfl ?_
          refine x_callV hC xv_X21_92 dX21_fires_193 (q := 196) rfl rfl (m_X8_goesOut h0 (kT (kIs (kIs (kOn σ (kFs F σ kq hh t (kFrN F σ kq hh t k p1) p1 c1)) 34 c1 (t c1 p1).toInt) 36 c1 (k c1 p1).toInt) f4) _ hKVf c1 hcl) (nn := (20, c1)) (kg_20 (σ := (kT (kIs (kIs (kOn σ (kFs F σ kq hh t (kFrN F σ kq hh t k p1) p1 c1)) 34 c1 (t c1 p1).toInt) 36 c1 (k c1 p1).toInt) f4)) c1 hcl) rfl rfl (Nat.le_of_ble_eq_true rfl) ⟨(Nat.le_of_ble_eq_true rfl), (Nat.le_of_ble_eq_true rfl)⟩ ⟨(Nat.le_of_ble_eq_true rfl), (Nat.le_of_ble_eq_true rfl)⟩ (fun v g1 hp => ?_)
          obtain ⟨rfl, hg1⟩ := hp
          replace hg1 := hg1.symm
          subst hg1
          refine x_geq (g' := kmix (kT (kOn σ (kFrN F σ kq hh t k (p1 + 1))) f4) (kBF (xu gF (60, 0) (some (a_2, xAr (.object "KilnBench$Child") 6 (kWs σ kq (kA σ 25 kq))))) a aT aC (kA σ 21 kq) hh (kA σ 0 0) t k)) (by rw [kGo_kT, kOn_eq (σ := σ) (τ := (kFs F σ kq hh t (kFrN F σ kq hh t k p1) p1 c1)) (by rw [kA_kFs, kA_kFrN]), kOn_eq (σ := σ) (τ := kFrN F σ kq hh t k (p1 + 1)) (by rw [kA_kFrN]), kFrN_s hc1]) ?_
          refine x_iinc hC dX21_fires_196 (q := 199) rfl rfl (v := nI (p1 + 1)) (nI_1 p1) ?_
          refine x_goto hC dX21_fires_199 (tgt := 41) rfl ?_
          refine x_lvle (lv' := [some (.ref a), some (.ref a_2), some (.int (nI (kCk σ kq k (p1 + 1)))), some (.int (nI (p1 + 1))), none, none]) (by first | (rw [kCk_0 hc1 hkz]; repeat' constructor) | (rw [kCk_1 hc1 hkz]; repeat' constructor)) ?_
          exact ih (p1 + 1, f4) (by dsimp only; omega) (by dsimp only; omega)
        have hkz : ¬ k c1 p1 = 0 := by
          intro e
          refine h185 ?_
          show iI (kI (kIs (kIs (kOn σ (kFs F σ kq hh t (kFrN F σ kq hh t k p1) p1 c1)) 34 c1 (t c1 p1).toInt) 36 c1 (k c1 p1).toInt) 36 c1) = 0
          rw [kI_kIs, if_pos ⟨rfl, rfl⟩, iI_self]
          exact e
        refine x_iinc hC dX21_fires_188 (q := 191) rfl rfl (v := nI (kCk σ kq k p1 + 1)) (nI_1 _) ?_
        have hKVf : KV (kIs (kIs (kOn σ (kFs F σ kq hh t (kFrN F σ kq hh t k p1) p1 c1)) 34 c1 (t c1 p1).toInt) 36 c1 (k c1 p1).toInt) := by
          rw [kOn_eq (σ := σ) (τ := (kFs F σ kq hh t (kFrN F σ kq hh t k p1) p1 c1)) (by rw [kA_kFs, kA_kFrN])]
          exact KV_kIs (KV_kIs (kFs_V (kFrN_V hv _) _ _) (by decide) _ _) (by decide) _ _
        refine x_aloadr hC dX21_fires_191 (q := 193) rfl rfl ?_
        refine x_callV hC xv_X21_92 dX21_fires_193 (q := 196) rfl rfl (m_X8_goesOut h0 (kT (kIs (kIs (kOn σ (kFs F σ kq hh t (kFrN F σ kq hh t k p1) p1 c1)) 34 c1 (t c1 p1).toInt) 36 c1 (k c1 p1).toInt) f4) _ hKVf c1 hcl) (nn := (20, c1)) (kg_20 (σ := (kT (kIs (kIs (kOn σ (kFs F σ kq hh t (kFrN F σ kq hh t k p1) p1 c1)) 34 c1 (t c1 p1).toInt) 36 c1 (k c1 p1).toInt) f4)) c1 hcl) rfl rfl (Nat.le_of_ble_eq_true rfl) ⟨(Nat.le_of_ble_eq_true rfl), (Nat.le_of_ble_eq_true rfl)⟩ ⟨(Nat.le_of_ble_eq_true rfl), (Nat.le_of_ble_eq_true rfl)⟩ (fun v g1 hp => ?_)
        obtain ⟨rfl, hg1⟩ := hp
        replace hg1 := hg1.symm
        subst hg1
        refine x_geq (g' := kmix (kT (kOn σ (kFrN F σ kq hh t k (p1 + 1))) f4) (kBF (xu gF (60, 0) (some (a_2, xAr (.object "KilnBench$Child") 6 (kWs σ kq (kA σ 25 kq))))) a aT aC (kA σ 21 kq) hh (kA σ 0 0) t k)) (by rw [kGo_kT, kOn_eq (σ := σ) (τ := (kFs F σ kq hh t (kFrN F σ kq hh t k p1) p1 c1)) (by rw [kA_kFs, kA_kFrN]), kOn_eq (σ := σ) (τ := kFrN F σ kq hh t k (p1 + 1)) (by rw [kA_kFrN]), kFrN_s hc1]) ?_
        refine x_iinc hC dX21_fires_196 (q := 199) rfl rfl (v := nI (p1 + 1)) (nI_1 p1) ?_
        refine x_goto hC dX21_fires_199 (tgt := 41) rfl ?_
        refine x_lvle (lv' := [some (.ref a), some (.ref a_2), some (.int (nI (kCk σ kq k (p1 + 1)))), some (.int (nI (p1 + 1))), none, none]) (by first | (rw [kCk_0 hc1 hkz]; repeat' constructor) | (rw [kCk_1 hc1 hkz]; repeat' constructor)) ?_
        exact ih (p1 + 1, f4) (by dsimp only; omega) (by dsimp only; omega)
      refine x_iload_n hC dX21_fires_65 (q := 66) rfl rfl ?_
      refine x_iconst hC dX21_fires_66 (q := 67) rfl (v := (1)) (by decide) ?_
      refine x_iadd hC dX21_fires_67 (q := 68) rfl ?_
      refine x_aloadr_n hC dX21_fires_68 (q := 69) rfl rfl ?_
      refine x_get hC xf_X21_25_18 dX21_fires_69 (q := 72) rfl (n := (55, 0)) rfl rfl ?_
      refine x_get hC xf_X21_55_6 dX21_fires_72 (q := 75) rfl (n := (21, kq)) (kg_21 (σ := (kT (kOn σ (kFrN F σ kq hh t k p1)) f2)) kq hq) rfl ?_
      refine x_icmp_ge hC dX21_fires_75 (q := 78) rfl (tgt := 86) rfl (fun h75 => ?_) (fun h75 => ?_)
      · have hnx : kNx σ kq p1 = none := if_neg (by
          have h2 : nI (kA σ 25 kq) ≤ nI (p1 + 1) := by rw [← nI_1]; exact h75
          have := (nI_leI (by omega) (by omega)).mp h2
          omega)
        have hfs : (kFs F σ kq hh t (kFrN F σ kq hh t k p1) p1 c1) = (kFrN F σ kq hh t k p1) := kFs_a hnx
        have hon := kOn_eq (σ := σ) (τ := (kFrN F σ kq hh t k p1)) (by rw [kA_kFrN])
        refine x_null hC dX21_fires_86 (q := 87) rfl ?_
        refine x_astoren hC dX21_fires_87 (q := 89) rfl rfl ?_
        refine x_aload hC dX21_fires_89 (q := 91) rfl rfl (Or.inl rfl) ?_
        refine x_ifnull_n hC dX21_fires_91 (tgt := 146) rfl ?_
        first
          | (refine x_geq (g' := kmix (kT (kOn σ (kFs F σ kq hh t (kFrN F σ kq hh t k p1) p1 c1)) f5) (kBF (xu gF (60, 0) (some (a_2, xAr (.object "KilnBench$Child") 6 (kWs σ kq (kA σ 25 kq))))) a aT aC (kA σ 21 kq) hh (kA σ 0 0) t k)) (by rw [kOn_eq (σ := σ) (τ := (kFs F σ kq hh t (kFrN F σ kq hh t k p1) p1 c1)) (by rw [kA_kFs, kA_kFrN]), hfs, hon]) ?_
             refine x_lvle (lv' := [some (.ref a), some (.ref a_2), some (.int (nI (kCk σ kq k p1))), some (.int (nI p1)), some (.ref (kA σ 20 c1)), none]) (by repeat' constructor) ?_
             exact hcut f5 trivial)
          | (refine x_geq (g' := kmix (kT (kOn σ (kFs F σ kq hh t (kFrN F σ kq hh t k p1) p1 c1)) f2) (kBF (xu gF (60, 0) (some (a_2, xAr (.object "KilnBench$Child") 6 (kWs σ kq (kA σ 25 kq))))) a aT aC (kA σ 21 kq) hh (kA σ 0 0) t k)) (by rw [kOn_eq (σ := σ) (τ := (kFs F σ kq hh t (kFrN F σ kq hh t k p1) p1 c1)) (by rw [kA_kFs, kA_kFrN]), hfs, hon]) ?_
             refine x_lvle (lv' := [some (.ref a), some (.ref a_2), some (.int (nI (kCk σ kq k p1))), some (.int (nI p1)), some (.ref (kA σ 20 c1)), none]) (by repeat' constructor) ?_
             exact hcut f2 trivial)
      have hp4 : p1 + 1 < kA σ 25 kq := Nat.lt_of_not_le (fun q => h75 (by rw [nI_1]; exact nI_le q (by omega)))
      have hnx : kNx σ kq p1 = kO σ 1 kq (p1 + 1) := if_pos hp4
      refine x_aloadr_n hC dX21_fires_78 (q := 79) rfl rfl ?_
      refine x_iload_n hC dX21_fires_79 (q := 80) rfl rfl ?_
      refine x_iconst hC dX21_fires_80 (q := 81) rfl (v := (1)) (by decide) ?_
      refine x_iadd hC dX21_fires_81 (q := 82) rfl ?_
      refine x_aald hC dX21_fires_82 (q := 83) rfl (n := (60, 0)) rfl (j := p1 + 1) (nI_1 p1) (by omega) (by decide) rfl ?_
      refine x_steq (st1 := [va_rf ((kO σ 1 kq (p1 + 1)).map (kA σ 20))]) (by rw [kWs_lt hp4]) ?_
      refine x_goto hC dX21_fires_83 (tgt := 87) rfl ?_
      refine x_astore hC dX21_fires_87 (q := 89) rfl rfl (va_rf_or _) ?_
      refine x_aload hC dX21_fires_89 (q := 91) rfl rfl (va_rf_or _) ?_
      refine x_ifnull hC dX21_fires_91 (q := 94) rfl (tgt := 146) rfl (fun h91 => ?_) (fun a91 h91 => ?_)
      · have hnn : kNx σ kq p1 = none := by
          rw [hnx]
          cases hk : kO σ 1 kq (p1 + 1) with
          | none => rfl
          | some w => exact absurd h91 (by rw [hk]; intro q; cases q)
        have hfs : (kFs F σ kq hh t (kFrN F σ kq hh t k p1) p1 c1) = (kFrN F σ kq hh t k p1) := kFs_a hnn
        have hon := kOn_eq (σ := σ) (τ := (kFrN F σ kq hh t k p1)) (by rw [kA_kFrN])
        first
          | (refine x_geq (g' := kmix (kT (kOn σ (kFs F σ kq hh t (kFrN F σ kq hh t k p1) p1 c1)) f5) (kBF (xu gF (60, 0) (some (a_2, xAr (.object "KilnBench$Child") 6 (kWs σ kq (kA σ 25 kq))))) a aT aC (kA σ 21 kq) hh (kA σ 0 0) t k)) (by rw [kOn_eq (σ := σ) (τ := (kFs F σ kq hh t (kFrN F σ kq hh t k p1) p1 c1)) (by rw [kA_kFs, kA_kFrN]), hfs, hon]) ?_
             refine x_lvle (lv' := [some (.ref a), some (.ref a_2), some (.int (nI (kCk σ kq k p1))), some (.int (nI p1)), some (.ref (kA σ 20 c1)), none]) (by repeat' constructor) ?_
             exact hcut f5 trivial)
          | (refine x_geq (g' := kmix (kT (kOn σ (kFs F σ kq hh t (kFrN F σ kq hh t k p1) p1 c1)) f2) (kBF (xu gF (60, 0) (some (a_2, xAr (.object "KilnBench$Child") 6 (kWs σ kq (kA σ 25 kq))))) a aT aC (kA σ 21 kq) hh (kA σ 0 0) t k)) (by rw [kOn_eq (σ := σ) (τ := (kFs F σ kq hh t (kFrN F σ kq hh t k p1) p1 c1)) (by rw [kA_kFs, kA_kFrN]), hfs, hon]) ?_
             refine x_lvle (lv' := [some (.ref a), some (.ref a_2), some (.int (nI (kCk σ kq k p1))), some (.int (nI p1)), some (.ref (kA σ 20 c1)), none]) (by repeat' constructor) ?_
             exact hcut f2 trivial)
      obtain ⟨d1, hd1⟩ := omap h91
      have hdl := hw.2.2.2.2.2 kq (p1 + 1) d1 hq hd1
      refine x_lvle (lv' := [some (.ref a), some (.ref a_2), some (.int (nI (kCk σ kq k p1))), some (.int (nI p1)), some (.ref (kA σ 20 c1)), some (.ref (kA σ 20 d1))]) (by rw [hd1]; repeat' constructor) ?_
      rw [← hnx] at hd1
      refine x_aloadr_n hC dX21_fires_94 (q := 95) rfl rfl ?_
      refine x_aloadr hC dX21_fires_95 (q := 97) rfl rfl ?_
      refine x_get hC xf_X21_76_5 dX21_fires_97 (q := 100) rfl (n := (20, c1)) (kg_20 (σ := (kT (kOn σ (kFrN F σ kq hh t k p1)) f2)) c1 hcl) rfl ?_
      refine x_aloadr hC dX21_fires_100 (q := 102) rfl rfl ?_
      refine x_get hC xf_X21_76_5 dX21_fires_102 (q := 105) rfl (n := (20, d1)) (kg_20 (σ := (kT (kOn σ (kFrN F σ kq hh t k p1)) f2)) d1 hdl) rfl ?_
      refine x_iload_n hC dX21_fires_105 (q := 106) rfl rfl ?_
      refine x_callV hC xv_X21_79 dX21_fires_106 (q := 109) rfl rfl (m_X21_doStick h0 (kOn σ (kFrN F σ kq hh t k p1)) (xu gF (60, 0) (some (a_2, xAr (.object "KilnBench$Child") 6 (kWs σ kq (kA σ 25 kq))))) f2 (kF_on (kF_mono hF (x60_sub h60 _)) (fun j => by rw [kOn_eq (σ := σ) (τ := (kFrN F σ kq hh t k p1)) (by rw [kA_kFrN])]; exact kO2_kFrN _ j)) (by rw [kOn_eq (σ := σ) (τ := (kFrN F σ kq hh t k p1)) (by rw [kA_kFrN])]; exact (kFrN_V hv _).1) (kNB_60 hNB _) hq c1 d1 p1 hcl hdl (by omega)) (nn := (55, 0)) rfl rfl rfl (Nat.le_of_ble_eq_true rfl) ⟨(Nat.le_of_ble_eq_true rfl), (Nat.le_of_ble_eq_true rfl)⟩ ⟨(Nat.le_of_ble_eq_true rfl), (Nat.le_of_ble_eq_true rfl)⟩ (fun v g1 hp => ?_)
      obtain ⟨f5, rfl, hg1⟩ := hp
      replace hg1 := hg1.symm
      subst hg1
      refine x_geq (g' := kmix (kT (kOn σ (kFrN F σ kq hh t k p1)) f5) (kBF (xu gF (60, 0) (some (a_2, xAr (.object "KilnBench$Child") 6 (kWs σ kq (kA σ 25 kq))))) a aT aC (kA σ 21 kq) hh (kA σ 0 0) t k)) rfl ?_
      refine x_if_eq hC dX21_fires_109 (q := 112) rfl (tgt := 146) rfl (fun h109 => ?_) (fun h109 => ?_)
      · have hst := h109
        have hfs : (kFs F σ kq hh t (kFrN F σ kq hh t k p1) p1 c1) = (kFrN F σ kq hh t k p1) := kFs_b hd1 hst
        have hon := kOn_eq (σ := σ) (τ := (kFrN F σ kq hh t k p1)) (by rw [kA_kFrN])
        first
          | (refine x_geq (g' := kmix (kT (kOn σ (kFs F σ kq hh t (kFrN F σ kq hh t k p1) p1 c1)) f5) (kBF (xu gF (60, 0) (some (a_2, xAr (.object "KilnBench$Child") 6 (kWs σ kq (kA σ 25 kq))))) a aT aC (kA σ 21 kq) hh (kA σ 0 0) t k)) (by rw [kOn_eq (σ := σ) (τ := (kFs F σ kq hh t (kFrN F σ kq hh t k p1) p1 c1)) (by rw [kA_kFs, kA_kFrN]), hfs, hon]) ?_
             refine x_lvle (lv' := [some (.ref a), some (.ref a_2), some (.int (nI (kCk σ kq k p1))), some (.int (nI p1)), some (.ref (kA σ 20 c1)), none]) (by repeat' constructor) ?_
             exact hcut f5 trivial)
          | (refine x_geq (g' := kmix (kT (kOn σ (kFs F σ kq hh t (kFrN F σ kq hh t k p1) p1 c1)) f2) (kBF (xu gF (60, 0) (some (a_2, xAr (.object "KilnBench$Child") 6 (kWs σ kq (kA σ 25 kq))))) a aT aC (kA σ 21 kq) hh (kA σ 0 0) t k)) (by rw [kOn_eq (σ := σ) (τ := (kFs F σ kq hh t (kFrN F σ kq hh t k p1) p1 c1)) (by rw [kA_kFs, kA_kFrN]), hfs, hon]) ?_
             refine x_lvle (lv' := [some (.ref a), some (.ref a_2), some (.int (nI (kCk σ kq k p1))), some (.int (nI p1)), some (.ref (kA σ 20 c1)), none]) (by repeat' constructor) ?_
             exact hcut f2 trivial)
      have hst := h109
      have hfs : (kFs F σ kq hh t (kFrN F σ kq hh t k p1) p1 c1) = kStk (kFrN F σ kq hh t k p1) c1 d1 := kFs_c hd1 hst
      have hon := kOn_eq (σ := σ) (τ := kStk (kFrN F σ kq hh t k p1) c1 d1) (by rw [kA_kStk, kA_kFrN])
      refine x_aloadr hC dX21_fires_112 (q := 114) rfl rfl ?_
      refine x_dup hC dX21_fires_114 (q := 115) rfl rfl ?_
      refine x_get hC xf_X21_82_5 dX21_fires_115 (q := 118) rfl (n := (20, c1)) (kg_20 (σ := (kT (kOn σ (kFrN F σ kq hh t k p1)) f5)) c1 hcl) rfl ?_
      refine x_iconst hC dX21_fires_118 (q := 119) rfl (v := (1)) (by decide) ?_
      refine x_aloadr hC dX21_fires_119 (q := 121) rfl rfl ?_
      refine x_get hC xf_X21_76_5 dX21_fires_121 (q := 124) rfl (n := (20, d1)) (kg_20 (σ := (kT (kOn σ (kFrN F σ kq hh t k p1)) f5)) d1 hdl) rfl ?_
      refine x_ishl hC dX21_fires_124 (q := 125) rfl ?_
      refine x_ior hC dX21_fires_125 (q := 126) rfl ?_
      refine x_put hC (n := (20, c1)) xf_X21_82_5 xd_5 rfl dX21_fires_126 (q := 129) rfl (kg_20 (σ := (kT (kOn σ (kFrN F σ kq hh t k p1)) f5)) c1 hcl) rfl rfl rfl ?_
      refine x_geq (g' := kmix (kT (kIs (kOn σ (kFrN F σ kq hh t k p1)) 35 c1 (iI (kI (kFrN F σ kq hh t k p1) 35 c1) ||| ((1 : Int32) <<< (nI d1 &&& 31))).toInt) f5) (kBF (xu gF (60, 0) (some (a_2, xAr (.object "KilnBench$Child") 6 (kWs σ kq (kA σ 25 kq))))) a aT aC (kA σ 21 kq) hh (kA σ 0 0) t k)) (kf_stuck (σ := (kT (kOn σ (kFrN F σ kq hh t k p1)) f5)) (z := (iI (kI (kFrN F σ kq hh t k p1) 35 c1) ||| ((1 : Int32) <<< (nI d1 &&& 31))).toInt) (iI_self _).symm hcl) ?_
      refine x_aloadr hC dX21_fires_129 (q := 131) rfl rfl ?_
      refine x_dup hC dX21_fires_131 (q := 132) rfl rfl ?_
      refine x_get hC xf_X21_82_5 dX21_fires_132 (q := 135) rfl (n := (20, d1)) (kg_20 (σ := (kT (kIs (kOn σ (kFrN F σ kq hh t k p1)) 35 c1 (iI (kI (kFrN F σ kq hh t k p1) 35 c1) ||| ((1 : Int32) <<< (nI d1 &&& 31))).toInt) f5)) d1 hdl) rfl ?_
      refine x_iconst hC dX21_fires_135 (q := 136) rfl (v := (1)) (by decide) ?_
      refine x_aloadr hC dX21_fires_136 (q := 138) rfl rfl ?_
      refine x_get hC xf_X21_76_5 dX21_fires_138 (q := 141) rfl (n := (20, c1)) (kg_20 (σ := (kT (kIs (kOn σ (kFrN F σ kq hh t k p1)) 35 c1 (iI (kI (kFrN F σ kq hh t k p1) 35 c1) ||| ((1 : Int32) <<< (nI d1 &&& 31))).toInt) f5)) c1 hcl) rfl ?_
      refine x_ishl hC dX21_fires_141 (q := 142) rfl ?_
      refine x_ior hC dX21_fires_142 (q := 143) rfl ?_
      refine x_put hC (n := (20, d1)) xf_X21_82_5 xd_5 rfl dX21_fires_143 (q := 146) rfl (kg_20 (σ := (kT (kIs (kOn σ (kFrN F σ kq hh t k p1)) 35 c1 (iI (kI (kFrN F σ kq hh t k p1) 35 c1) ||| ((1 : Int32) <<< (nI d1 &&& 31))).toInt) f5)) d1 hdl) rfl rfl rfl ?_
      refine x_geq (g' := kmix (kT (kOn σ (kStk (kFrN F σ kq hh t k p1) c1 d1)) f5) (kBF (xu gF (60, 0) (some (a_2, xAr (.object "KilnBench$Child") 6 (kWs σ kq (kA σ 25 kq))))) a aT aC (kA σ 21 kq) hh (kA σ 0 0) t k)) (kf_stuck (σ := (kT (kIs (kOn σ (kFrN F σ kq hh t k p1)) 35 c1 (iI (kI (kFrN F σ kq hh t k p1) 35 c1) ||| ((1 : Int32) <<< (nI d1 &&& 31))).toInt) f5)) (z := _) (iI_self _).symm hdl) ?_
      first
        | (refine x_geq (g' := kmix (kT (kOn σ (kFs F σ kq hh t (kFrN F σ kq hh t k p1) p1 c1)) f5) (kBF (xu gF (60, 0) (some (a_2, xAr (.object "KilnBench$Child") 6 (kWs σ kq (kA σ 25 kq))))) a aT aC (kA σ 21 kq) hh (kA σ 0 0) t k)) (by rw [kOn_eq (σ := σ) (τ := (kFs F σ kq hh t (kFrN F σ kq hh t k p1) p1 c1)) (by rw [kA_kFs, kA_kFrN]), hfs, hon]) ?_
           refine x_lvle (lv' := [some (.ref a), some (.ref a_2), some (.int (nI (kCk σ kq k p1))), some (.int (nI p1)), some (.ref (kA σ 20 c1)), none]) (by repeat' constructor) ?_
           exact hcut f5 trivial)
        | (refine x_geq (g' := kmix (kT (kOn σ (kFs F σ kq hh t (kFrN F σ kq hh t k p1) p1 c1)) f2) (kBF (xu gF (60, 0) (some (a_2, xAr (.object "KilnBench$Child") 6 (kWs σ kq (kA σ 25 kq))))) a aT aC (kA σ 21 kq) hh (kA σ 0 0) t k)) (by rw [kOn_eq (σ := σ) (τ := (kFs F σ kq hh t (kFrN F σ kq hh t k p1) p1 c1)) (by rw [kA_kFs, kA_kFrN]), hfs, hon]) ?_
           refine x_lvle (lv' := [some (.ref a), some (.ref a_2), some (.int (nI (kCk σ kq k p1))), some (.int (nI p1)), some (.ref (kA σ 20 c1)), none]) (by repeat' constructor) ?_
           exact hcut f2 trivial)
    have hno : kO σ 1 kq p1 = none := by
      cases hk : kO σ 1 kq p1 with
      | none => rfl
      | some w => exact absurd h59 (by rw [hk]; intro q; cases q)
    refine x_goto hC dX21_fires_62 (tgt := 196) rfl ?_
    refine x_iinc hC dX21_fires_196 (q := 199) rfl rfl (v := nI (p1 + 1)) (nI_1 p1) ?_
    refine x_goto hC dX21_fires_199 (tgt := 41) rfl ?_
    refine x_geq (g' := kmix (kT (kOn σ (kFrN F σ kq hh t k (p1 + 1))) f2) (kBF (xu gF (60, 0) (some (a_2, xAr (.object "KilnBench$Child") 6 (kWs σ kq (kA σ 25 kq))))) a aT aC (kA σ 21 kq) hh (kA σ 0 0) t k)) (by rw [kFrN_n hno]) ?_
    refine x_lvle (lv' := [some (.ref a), some (.ref a_2), some (.int (nI (kCk σ kq k (p1 + 1)))), some (.int (nI (p1 + 1))), none, none]) (by rw [kCk_n hno]; repeat' constructor) ?_
    exact ih (p1 + 1, f2) (by dsimp only; omega) (by dsimp only; omega)
  have hp2 : p1 < (kA σ 25 kq) := Nat.lt_of_not_le (fun q => h16 (nI_le q (by omega)))
  refine x_aloadr_n hC dX21_fires_19 (q := 20) rfl rfl ?_
  refine x_iload_n hC dX21_fires_20 (q := 21) rfl rfl ?_
  refine x_aloadr_n hC dX21_fires_21 (q := 22) rfl rfl ?_
  refine x_get hC xf_X21_25_18 dX21_fires_22 (q := 25) rfl (n := (55, 0)) rfl rfl ?_
  refine x_get hC xf_X21_72_6 dX21_fires_25 (q := 28) rfl (n := (21, kq)) (kg_21 (σ := (kT σ f)) kq hq) rfl ?_
  refine x_iload_n hC dX21_fires_28 (q := 29) rfl rfl ?_
  refine x_aald hC dX21_fires_29 (q := 30) rfl (n := (22, kq)) (kg_22 (σ := (kT σ f)) kq hq) (j := p1) rfl (by omega) (by decide) rfl ?_
  refine x_aasto hC dX21_fires_30 (q := 31) rfl (n := (60, 0)) rfl rfl (fun v hv => by
    obtain ⟨c1, hc1⟩ := omap hv
    have hcl := hw.2.2.2.2.2 kq p1 c1 hq hc1
    rw [show kO (kT σ f) 1 kq p1 = some c1 from hc1] at hv
    cases hv
    exact ⟨(20, c1), _, rfl, kg_20 (σ := kT σ f) c1 hcl, Or.inr ⟨⟨_, rfl⟩, rfl⟩⟩) (j := p1) rfl (by omega) (by decide) ?_
  refine x_geq (g' := kmix (kT σ f) (kBF (xu gF (60, 0) (some (a_2, xAr (.object "KilnBench$Child") 6 (kWs σ kq (p1 + 1))))) a aT aC (kA σ 21 kq) hh (kA σ 0 0) t k)) (by rw [kmix_xuF _ _ _ _ rfl, kBF_xu60, xu_xu]; exact congrArg (fun w => kmix (kT σ f) (kBF (xu gF (60, 0) (some (a_2, xAr (.object "KilnBench$Child") 6 (w)))) a aT aC (kA σ 21 kq) hh (kA σ 0 0) t k)) (kWs_step σ kq p1)) ?_
  refine x_iinc hC dX21_fires_31 (q := 34) rfl rfl (v := nI (p1 + 1)) (nI_1 p1) ?_
  refine x_goto hC dX21_fires_34 (tgt := 8) rfl ?_
  exact ih (p1 + 1) (by omega) (by omega)
