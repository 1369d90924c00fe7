/-! Settings.tries -/
/-- row, best, heat, most -/
abbrev KZ : Type := (Nat → Int32) × (Nat → Int32) × Int32 × Int32
/-- settings in the frame -/
def kGF (gF : xG) (a aR aB kl : Nat) (al : Int32) (z : KZ) (o : Nat) : xG := fun n => if n = (61, 0) then some (a, xO 19 [.ref kl, .ref aR, .ref aB, .int al, .int z.2.2.1, .int z.2.2.2, .ref o]) else if n = (62, 0) then some (aR, xAi .int 6 z.1) else if n = (63, 0) then some (aB, xAi .int 6 z.2.1) else gF n
def kNG (gF : xG) : Prop := gF (61, 0) = none ∧ gF (62, 0) = none ∧ gF (63, 0) = none
section KGFs
variable {gF : xG} {a aR aB kl : Nat} {al : Int32} {z : KZ} {o : Nat}
theorem kGF_sub (h : kNG gF) (n : xN) (x : Nat × xE) (hx : gF n = some x) : kGF gF a aR aB kl al z o n = some x := by
  unfold kGF
  rw [if_neg (fun q => by rw [q, h.1] at hx; cases hx), if_neg (fun q => by rw [q, h.2.1] at hx; cases hx), if_neg (fun q => by rw [q, h.2.2] at hx; cases hx)]
  exact hx
theorem kNB_GF (h : kNB gF) : kNB (kGF gF a aR aB kl al z o) := fun n h1 h2 => by
  unfold kGF
  rw [if_neg (fun q => by rw [q] at h2; exact absurd h2 (by decide)), if_neg (fun q => by rw [q] at h2; exact absurd h2 (by decide)), if_neg (fun q => by rw [q] at h2; exact absurd h2 (by decide))]
  exact h n h1 h2
theorem kBF_xu {g0 : xG} {a0 aT aC kl0 : Nat} {h : Int32} {o0 : Nat} {t k : Nat → Nat → Int32} {m : Nat} (hm : 60 ≤ m) {x : Option (Nat × xE)} : xu (kBF g0 a0 aT aC kl0 h o0 t k) (m, 0) x = kBF (xu g0 (m, 0) x) a0 aT aC kl0 h o0 t k := by
  funext n
  by_cases e : n = (m, 0)
  · subst e
    rw [xu_eq]
    unfold kBF
    rw [if_neg (fun q => by have := congrArg Prod.fst q; dsimp only at this; omega), if_neg (fun q => by have := congrArg Prod.fst q; dsimp only at this; omega), if_neg (fun q => by have := q.1; dsimp only at this; omega), if_neg (fun q => by have := congrArg Prod.fst q; dsimp only at this; omega), if_neg (fun q => by have := q.1; dsimp only at this; omega), xu_eq]
  · rw [xu_ne e]; unfold kBF; rw [xu_ne e]
theorem kGF_row {f : Nat → Int32} : xu (kGF gF a aR aB kl al z o) (62, 0) (some (aR, xAi .int 6 f)) = kGF gF a aR aB kl al (f, z.2) o := by
  funext n; unfold kGF xu; (repeat' split) <;> first | rfl | simp_all
theorem kGF_best {f : Nat → Int32} : xu (kGF gF a aR aB kl al z o) (63, 0) (some (aB, xAi .int 6 f)) = kGF gF a aR aB kl al (z.1, f, z.2.2) o := by
  funext n; unfold kGF xu; (repeat' split) <;> first | rfl | simp_all
theorem kGF_most {x : Int32} : xu (kGF gF a aR aB kl al z o) (61, 0) (some (a, xO 19 [.ref kl, .ref aR, .ref aB, .int al, .int z.2.2.1, .int x, .ref o])) = kGF gF a aR aB kl al (z.1, z.2.1, z.2.2.1, x) o := by
  funext n; unfold kGF xu; (repeat' split) <;> first | rfl | simp_all
theorem kGF_heat {x : Int32} : xu (kGF gF a aR aB kl al z o) (61, 0) (some (a, xO 19 [.ref kl, .ref aR, .ref aB, .int al, .int x, .int z.2.2.2, .ref o])) = kGF gF a aR aB kl al (z.1, z.2.1, x, z.2.2.2) o := by
  funext n; unfold kGF xu; (repeat' split) <;> first | rfl | simp_all
theorem kGF_all {x : Int32} : xu (kGF gF a aR aB kl al z o) (61, 0) (some (a, xO 19 [.ref kl, .ref aR, .ref aB, .int x, .int z.2.2.1, .int z.2.2.2, .ref o])) = kGF gF a aR aB kl x z o := by
  funext n; unfold kGF xu; (repeat' split) <;> first | rfl | simp_all
end KGFs
def kZr (z : KZ) (p : Nat) (x : Int32) : KZ := (upd z.1 p x, z.2)
def kCpy (row best : Nat → Int32) (n : Nat) : Nat → Int32 := fun j => if j < n then row j else best j
theorem kCpy_s (row best : Nat → Int32) (n : Nat) : upd (kCpy row best n) n (row n) = kCpy row best (n + 1) := by
  funext j
  unfold upd kCpy
  by_cases e : j = n
  · subst e; rw [if_pos rfl, if_pos (by omega)]
  · rw [if_neg e]
    by_cases h : j < n
    · rw [if_pos h, if_pos (by omega)]
    · rw [if_neg h, if_neg (by omega)]
/-- a child is passed over at a place -/
def kSkB (F : Nat → Option (aEnv → Int64)) (σ : KS) (hh : Int32) (t k : Nat → Nat → Int32) (z : KZ) (p : Nat) (left : Int32) (c : Nat) : Bool := !(bt left c) || !(decide (k c p = 0)) || (decide (0 < p) && !(decide (z.1 (p - 1) = -1)) && !(decide (kStick F σ (z.1 (p - 1)).toInt.toNat (t (z.1 (p - 1)).toInt.toNat (p - 1)) c (t c p) hh = 0)))
def kTl (F : Nat → Option (aEnv → Int64)) (σ : KS) (hh : Int32) (t k : Nat → Nat → Int32) (rec : Int32 → Int32 → KZ → KZ) (p : Nat) (left sum : Int32) : Nat → KZ → KZ
  | 0, z => z
  | c + 1, z => if kSkB F σ hh t k (kTl F σ hh t k rec p left sum c z) p left c = true then kTl F σ hh t k rec p left sum c z else rec (left &&& (((1 : Int32) <<< (nI c &&& 31)) ^^^ (-1))) (sum + t c p) (kZr (kTl F σ hh t k rec p left sum c z) p (nI c))
def kTri (F : Nat → Option (aEnv → Int64)) (σ : KS) (hh : Int32) (t k : Nat → Nat → Int32) : Nat → Nat → Int32 → Int32 → Int32 → KZ → KZ
  | 0, p, _, _, sum, z => if sum ≤ z.2.2.2 then z else (z.1, kCpy z.1 z.2.1 p, hh, sum)
  | d + 1, p, left, free, sum, z => kTl F σ hh t k (fun l s y => kTri F σ hh t k d (p + 1) l free s y) p left sum (kA σ 61 0) (if free ≤ 0 then z else kTri F σ hh t k d (p + 1) left (free - 1) sum (kZr z p (-1)))
section KTRI
variable {F : Nat → Option (aEnv → Int64)} {σ : KS} {hh : Int32} {t k : Nat → Nat → Int32}
theorem kTl_row {rec : Int32 → Int32 → KZ → KZ} {p : Nat} (hrec : ∀ l s y j, j < p → (rec l s y).1 j = y.1 j) (left sum : Int32) : ∀ c z j, j < p → (kTl F σ hh t k rec p left sum c z).1 j = z.1 j := by
  intro c
  induction c with
  | zero => intro z j hj; rfl
  | succ c ih =>
    intro z j hj
    unfold kTl
    split
    · exact ih z j hj
    · rw [hrec _ _ _ j hj]
      show upd (kTl F σ hh t k rec p left sum c z).1 p (nI c) j = _
      unfold upd
      rw [if_neg (by omega)]
      exact ih z j hj
theorem kTri_row : ∀ d p left free sum (z : KZ) j, j < p → (kTri F σ hh t k d p left free sum z).1 j = z.1 j := by
  intro d
  induction d with
  | zero => intro p left free sum z j hj; unfold kTri; split <;> rfl
  | succ d ih =>
    intro p left free sum z j hj
    unfold kTri
    rw [kTl_row (fun l s y j hj => ih _ _ _ _ _ _ (by omega)) left sum _ _ j hj]
    split
    · rfl
    · rw [ih _ _ _ _ _ _ (by omega)]
      show upd z.1 p (-1) j = _
      unfold upd
      rw [if_neg (by omega)]
def kRv (σ : KS) (z : KZ) (p : Nat) : Prop := ∀ j, j < p → z.1 j = -1 ∨ ∃ c, c < kA σ 61 0 ∧ z.1 j = nI c
theorem kRv_s {z : KZ} {p : Nat} (h : kRv σ z p) {x : Int32} (hx : x = -1 ∨ ∃ c, c < kA σ 61 0 ∧ x = nI c) : kRv σ (kZr z p x) (p + 1) := by
  intro j hj
  show (upd z.1 p x j = -1) ∨ _
  show _ ∨ ∃ c, c < kA σ 61 0 ∧ upd z.1 p x j = nI c
  unfold upd
  by_cases e : j = p
  · rw [if_pos e]; exact hx
  · rw [if_neg e]; exact h j (by omega)
theorem kRv_eq {z y : KZ} {p : Nat} (h : kRv σ z p) (he : ∀ j, j < p → y.1 j = z.1 j) : kRv σ y p := fun j hj => by rw [he j hj]; exact h j hj
theorem b_at0 (x : Int32) {i : Nat} (hi : i < 32) : ((x >>> (nI i &&& 31)) &&& 1 = 0) ↔ bt x i = false := by
  have h1 : ∀ y : Int32, y &&& 1 = 0 ∨ y &&& 1 = 1 := by
    intro y
    obtain ⟨j, hj, e⟩ := pk_andE y (m := 1) 1 rfl
    rcases (by omega : j = 0 ∨ j = 1) with q | q
    · left; rw [e, q]; rfl
    · right; rw [e, q]; rfl
  constructor
  · intro h
    cases hb : bt x i with
    | false => rfl
    | true =>
      have := (b_at x hi).mpr hb
      rw [h] at this
      exact absurd this (by decide)
  · intro h
    rcases h1 (x >>> (nI i &&& 31)) with q | q
    · exact q
    · have := (b_at x hi).mp q
      rw [h] at this; cases this
end KTRI

set_option maxHeartbeats 4000000 in
set_option maxRecDepth 100000 in
theorem m_tries_0 {l : Launch} {s0 : State} {D : va_G} (h0 : x0 l s0 D) (σ : KS) (gF : xG) {F : Nat → Option (aEnv → Int64)} (hF : kF gF σ F) (hw : KW σ) (hNB : kNB gF) (hNG : kNG gF) {a as aR aB aT aC kq : Nat} (hq : kq < kA σ 62 0) {hh al : Int32} {t k : Nat → Nat → Int32} (f : aEnv) (p1 : Nat) (hpr : p1 = kA σ 25 kq) (left free sum : Int32) (z : KZ) : xMet l s0 D yX22_tries cX22_tries 7 none (xr 40 0 0 1750) [.ref as, .ref a, .int (nI p1), .int left, .int free, .int sum] (kmix (kT σ f) (kBF (kGF gF as aR aB (kA σ 21 kq) al z (kA σ 0 0)) a aT aC (kA σ 21 kq) hh (kA σ 0 0) t k)) (fun r g1 => ∃ f1, r = none ∧ g1 = kmix (kT σ f1) (kBF (kGF gF as aR aB (kA σ 21 kq) al (kTri F σ hh t k 0 p1 left free sum z) (kA σ 0 0)) a aT aC (kA σ 21 kq) hh (kA σ 0 0) t k)) := by
  have hw6 := hw.2.2.2.1 kq hq
  refine xMet.of h0 (by decide +kernel) rfl ?_
  intro p e s m args below meth c hC hr hnm
  refine x_iload_n hC dX22_tries_0 (q := 1) rfl rfl ?_
  refine x_aloadr_n hC dX22_tries_1 (q := 2) rfl rfl ?_
  refine x_get hC xf_X22_29_19 dX22_tries_2 (q := 5) rfl (n := (61, 0)) rfl rfl ?_
  refine x_get hC xf_X22_63_6 dX22_tries_5 (q := 8) rfl (n := (21, kq)) (kg_21 (σ := kT σ f) kq hq) rfl ?_
  refine x_icmp_ne hC dX22_tries_8 (q := 11) rfl (tgt := 65) rfl (fun h8 => ?_) (fun h8 => ?_)
  · exact absurd (by rw [hpr]; rfl) h8
  refine x_iload hC dX22_tries_11 (q := 13) rfl rfl ?_
  refine x_aloadr_n hC dX22_tries_13 (q := 14) rfl rfl ?_
  refine x_get hC xf_X22_26_19 dX22_tries_14 (q := 17) rfl (n := (61, 0)) rfl rfl ?_
  refine x_icmp_gt hC dX22_tries_17 (q := 20) rfl (tgt := 21) rfl (fun h17 => ?_) (fun h17 => ?_)
  · have hgt : ¬ sum ≤ z.2.2.2 := Int32.not_le.mpr h17
    refine x_aloadr_n hC dX22_tries_21 (q := 22) rfl rfl ?_
    refine x_iload hC dX22_tries_22 (q := 24) rfl rfl ?_
    refine x_put hC (n := (61, 0)) xf_X22_26_19 xd_19 rfl dX22_tries_24 (q := 27) rfl rfl rfl rfl rfl ?_
    refine x_geq (g' := kmix (kT σ f) (kBF (kGF gF as aR aB (kA σ 21 kq) al (z.1, z.2.1, z.2.2.1, sum) (kA σ 0 0)) a aT aC (kA σ 21 kq) hh (kA σ 0 0) t k)) (by rw [kmix_xuF _ _ _ _ rfl, kBF_xu (by decide)]; exact congrArg (fun q => kmix (kT σ f) (kBF q a aT aC (kA σ 21 kq) hh (kA σ 0 0) t k)) kGF_most) ?_
    refine x_aloadr_n hC dX22_tries_27 (q := 28) rfl rfl ?_
    refine x_aloadr_n hC dX22_tries_28 (q := 29) rfl rfl ?_
    refine x_get hC xf_X22_75_18 dX22_tries_29 (q := 32) rfl (n := (55, 0)) rfl rfl ?_
    refine x_put hC (n := (61, 0)) xf_X22_22_19 xd_19 rfl dX22_tries_32 (q := 35) rfl rfl rfl rfl rfl ?_
    refine x_geq (g' := kmix (kT σ f) (kBF (kGF gF as aR aB (kA σ 21 kq) al (z.1, z.2.1, hh, sum) (kA σ 0 0)) a aT aC (kA σ 21 kq) hh (kA σ 0 0) t k)) (by rw [kmix_xuF _ _ _ _ rfl, kBF_xu (by decide)]; exact congrArg (fun q => kmix (kT σ f) (kBF q a aT aC (kA σ 21 kq) hh (kA σ 0 0) t k)) (kGF_heat (z := (z.1, z.2.1, z.2.2.1, sum)))) ?_
    refine x_iconst hC dX22_tries_35 (q := 36) rfl (v := (0)) (by decide) ?_
    refine x_istore hC dX22_tries_36 (q := 38) rfl rfl ?_
    refine x_geq (g' := kmix (kT σ f) (kBF (kGF gF as aR aB (kA σ 21 kq) al (z.1, kCpy z.1 z.2.1 0, hh, sum) (kA σ 0 0)) a aT aC (kA σ 21 kq) hh (kA σ 0 0) t k)) (by rw [show kCpy z.1 z.2.1 0 = z.2.1 from funext fun j => if_neg (Nat.not_lt_zero j)]) ?_
    refine x_loop (S := (fun i : Nat => ((0 : Nat), (0 : Nat), kmix (kT σ f) (kBF (kGF gF as aR aB (kA σ 21 kq) al (z.1, kCpy z.1 z.2.1 i, hh, sum) (kA σ 0 0)) a aT aC (kA σ 21 kq) hh (kA σ 0 0) t k), ([some (.ref as), some (.ref a), some (.int (nI p1)), some (.int left), some (.int free), some (.int sum), some (.int (nI i))] : xL), ([] : List Value)))) (Inv := fun i => i ≤ p1) (μ := fun i => p1 - i) ?_ 0 (Nat.zero_le _)
    intro i1 hi ih
    dsimp only at hi ih ⊢
    have h6 := hw.2.2.2.1 kq hq
    refine x_iload hC dX22_tries_38 (q := 40) rfl rfl ?_
    refine x_iload_n hC dX22_tries_40 (q := 41) rfl rfl ?_
    refine x_icmp_ge hC dX22_tries_41 (q := 44) rfl (tgt := 64) rfl (fun h41 => ?_) (fun h41 => ?_)
    · have hi3 : i1 = p1 := by
        have := (nI_leI (by omega) (by omega)).mp h41
        omega
      exact x_vret hC hr dX22_tries_64 (Nat.le_of_ble_eq_true rfl) (Nat.le_of_ble_eq_true rfl) ⟨f, rfl, by unfold kTri; rw [if_neg hgt, hi3]⟩
    have hi2 : i1 < p1 := Nat.lt_of_not_le (fun q => h41 (nI_le q (by omega)))
    refine x_aloadr_n hC dX22_tries_44 (q := 45) rfl rfl ?_
    refine x_get hC xf_X22_19_19 dX22_tries_45 (q := 48) rfl (n := (61, 0)) rfl rfl ?_
    refine x_iload hC dX22_tries_48 (q := 50) rfl rfl ?_
    refine x_aloadr_n hC dX22_tries_50 (q := 51) rfl rfl ?_
    refine x_get hC xf_X22_15_19 dX22_tries_51 (q := 54) rfl (n := (61, 0)) rfl rfl ?_
    refine x_iload hC dX22_tries_54 (q := 56) rfl rfl ?_
    refine x_iald hC dX22_tries_56 (q := 57) rfl (n := (62, 0)) rfl (j := i1) rfl (by omega) (by decide) ?_
    refine x_iast hC dX22_tries_57 (q := 58) rfl (n := (63, 0)) rfl rfl (j := i1) rfl (by omega) (by decide) ?_
    refine x_geq (g' := kmix (kT σ f) (kBF (kGF gF as aR aB (kA σ 21 kq) al (z.1, kCpy z.1 z.2.1 (i1 + 1), hh, sum) (kA σ 0 0)) a aT aC (kA σ 21 kq) hh (kA σ 0 0) t k)) (by rw [kmix_xuF _ _ _ _ rfl, kBF_xu (by decide)]; exact congrArg (fun q => kmix (kT σ f) (kBF q a aT aC (kA σ 21 kq) hh (kA σ 0 0) t k)) (kGF_best.trans (by rw [kCpy_s]))) ?_
    refine x_iinc hC dX22_tries_58 (q := 61) rfl rfl (v := nI (i1 + 1)) (nI_1 i1) ?_
    refine x_goto hC dX22_tries_61 (tgt := 38) rfl ?_
    exact ih (i1 + 1) (by omega) (by omega)
  have hle : sum ≤ z.2.2.2 := Int32.not_lt.mp h17
  exact x_vret hC hr dX22_tries_20 (Nat.le_of_ble_eq_true rfl) (Nat.le_of_ble_eq_true rfl) ⟨f, rfl, by unfold kTri; rw [if_pos hle]⟩

set_option maxHeartbeats 4000000 in
set_option maxRecDepth 100000 in
theorem m_tries_s {l : Launch} {s0 : State} {D : va_G} (h0 : x0 l s0 D) (σ : KS) (gF : xG) {F : Nat → Option (aEnv → Int64)} (hF : kF gF σ F) (hw : KW σ) (hNB : kNB gF) (hNG : kNG gF) {a as aR aB aT aC kq : Nat} (hq : kq < kA σ 62 0) {hh al : Int32} {t k : Nat → Nat → Int32} (d : Nat) (hih : ∀ (p1 : Nat) (left free sum : Int32) (z : KZ) (f : aEnv), p1 + d = kA σ 25 kq → kRv σ z p1 → xMet l s0 D yX22_tries cX22_tries 7 none (xr (40 + d) 0 0 (1750 + 30 * d)) [.ref as, .ref a, .int (nI p1), .int left, .int free, .int sum] (kmix (kT σ f) (kBF (kGF gF as aR aB (kA σ 21 kq) al z (kA σ 0 0)) a aT aC (kA σ 21 kq) hh (kA σ 0 0) t k)) (fun r g1 => ∃ f1, r = none ∧ g1 = kmix (kT σ f1) (kBF (kGF gF as aR aB (kA σ 21 kq) al (kTri F σ hh t k d p1 left free sum z) (kA σ 0 0)) a aT aC (kA σ 21 kq) hh (kA σ 0 0) t k))) (p1 : Nat) (left free sum : Int32) (z : KZ) (f : aEnv) (hpr : p1 + (d + 1) = kA σ 25 kq) (hrv : kRv σ z p1) : xMet l s0 D yX22_tries cX22_tries 7 none (xr (40 + (d + 1)) 0 0 (1750 + 30 * (d + 1))) [.ref as, .ref a, .int (nI p1), .int left, .int free, .int sum] (kmix (kT σ f) (kBF (kGF gF as aR aB (kA σ 21 kq) al z (kA σ 0 0)) a aT aC (kA σ 21 kq) hh (kA σ 0 0) t k)) (fun r g1 => ∃ f1, r = none ∧ g1 = kmix (kT σ f1) (kBF (kGF gF as aR aB (kA σ 21 kq) al (kTri F σ hh t k (d + 1) p1 left free sum z) (kA σ 0 0)) a aT aC (kA σ 21 kq) hh (kA σ 0 0) t k)) := by
  have hw6 := hw.2.2.2.1 kq hq
  have hz0 : ∀ j, j < p1 → (if free ≤ 0 then z else kTri F σ hh t k d (p1 + 1) left (free - 1) sum (kZr z p1 (-1))).1 j = z.1 j := by
    intro j hj
    split
    · rfl
    · rw [kTri_row _ _ _ _ _ _ _ (by omega)]
      show upd z.1 p1 (-1) j = _
      unfold upd
      rw [if_neg (by omega)]
  refine xMet.of h0 (by decide +kernel) rfl ?_
  intro p e s m args below meth c hC hr hnm
  refine x_iload_n hC dX22_tries_0 (q := 1) rfl rfl ?_
  refine x_aloadr_n hC dX22_tries_1 (q := 2) rfl rfl ?_
  refine x_get hC xf_X22_29_19 dX22_tries_2 (q := 5) rfl (n := (61, 0)) rfl rfl ?_
  refine x_get hC xf_X22_63_6 dX22_tries_5 (q := 8) rfl (n := (21, kq)) (kg_21 (σ := kT σ f) kq hq) rfl ?_
  refine x_icmp_ne hC dX22_tries_8 (q := 11) rfl (tgt := 65) rfl (fun h8 => ?_) (fun h8 => ?_)
  · refine x_cut 92 (fun i : aEnv => ((0 : Nat), (0 : Nat), kmix (kT σ i) (kBF (kGF gF as aR aB (kA σ 21 kq) al (if free ≤ 0 then z else kTri F σ hh t k d (p1 + 1) left (free - 1) sum (kZr z p1 (-1))) (kA σ 0 0)) a aT aC (kA σ 21 kq) hh (kA σ 0 0) t k), ([some (.ref as), some (.ref a), some (.int (nI p1)), some (.int left), some (.int free), some (.int sum), none] : xL), ([] : List Value))) (fun _ => True) ?_ (fun hcut => ?_)
    · intro f1 _
      dsimp only
      refine x_iconst hC dX22_tries_92 (q := 93) rfl (v := (0)) (by decide) ?_
      refine x_istore hC dX22_tries_93 (q := 95) rfl rfl ?_
      refine x_loop (S := (fun i : Nat × aEnv => ((0 : Nat), (0 : Nat), kmix (kT σ i.2) (kBF (kGF gF as aR aB (kA σ 21 kq) al (kTl F σ hh t k (fun l s y => kTri F σ hh t k d (p1 + 1) l free s y) p1 left sum i.1 (if free ≤ 0 then z else kTri F σ hh t k d (p1 + 1) left (free - 1) sum (kZr z p1 (-1)))) (kA σ 0 0)) a aT aC (kA σ 21 kq) hh (kA σ 0 0) t k), ([some (.ref as), some (.ref a), some (.int (nI p1)), some (.int left), some (.int free), some (.int sum), some (.int (nI i.1))] : xL), ([] : List Value)))) (Inv := fun i => i.1 ≤ kA σ 61 0) (μ := fun i => kA σ 61 0 - i.1) ?_ (0, f1) (Nat.zero_le _)
      intro ⟨c1, f2⟩ hi ih
      dsimp only at hi ih ⊢
      have h61 := hw.1
      refine x_iload hC dX22_tries_95 (q := 97) rfl rfl ?_
      refine x_aloadr_n hC dX22_tries_97 (q := 98) rfl rfl ?_
      refine x_get hC xf_X22_3_19 dX22_tries_98 (q := 101) rfl (n := (61, 0)) rfl rfl ?_
      refine x_callVN hC xv_X22_33 dX22_tries_101 (q := 104) rfl rfl (m_X2_children h0 (kT σ f2) _) (nn := (0, 0)) rfl rfl rfl (Nat.le_of_ble_eq_true rfl) ⟨(show 1 + 1 ≤ 40 + (d + 1) by omega), (show 8 + (1 + 11) + 20 ≤ 1750 + 30 * (d + 1) by omega)⟩ ⟨(Nat.le_of_ble_eq_true rfl), (Nat.le_of_ble_eq_true rfl)⟩ (fun v g1 hp => ?_)
      obtain ⟨rfl, hg1⟩ := hp
      replace hg1 := hg1.symm
      subst hg1
      refine x_icmp_ge hC dX22_tries_104 (q := 107) rfl (tgt := 211) rfl (fun h104 => ?_) (fun h104 => ?_)
      · have hc3 : c1 = kA σ 61 0 := by
          have h2 : nI (kA σ 61 0) ≤ nI c1 := h104
          have := (nI_leI (by omega) (by omega)).mp h2
          omega
        exact x_vret hC hr dX22_tries_211 (Nat.le_of_ble_eq_true rfl) (Nat.le_of_ble_eq_true rfl) ⟨f2, rfl, by rw [hc3]; rfl⟩
      have hc2 : c1 < kA σ 61 0 := Nat.lt_of_not_le (fun q => h104 (show nI (kA σ 61 0) ≤ nI c1 from nI_le q (by omega)))
      have hc8 : c1 < 8 := by omega
      have hrvc : kRv σ (kTl F σ hh t k (fun l s y => kTri F σ hh t k d (p1 + 1) l free s y) p1 left sum c1 (if free ≤ 0 then z else kTri F σ hh t k d (p1 + 1) left (free - 1) sum (kZr z p1 (-1)))) p1 := (kRv_eq hrv (fun j hj => (kTl_row (fun l s y j hj => kTri_row _ _ _ _ _ _ _ (by omega)) left sum _ _ j hj).trans (hz0 j hj)))
      refine x_iload_n hC dX22_tries_107 (q := 108) rfl rfl ?_
      refine x_iload hC dX22_tries_108 (q := 110) rfl rfl ?_
      refine x_ishr hC dX22_tries_110 (q := 111) rfl ?_
      refine x_iconst hC dX22_tries_111 (q := 112) rfl (v := (1)) (by decide) ?_
      refine x_iand hC dX22_tries_112 (q := 113) rfl ?_
      refine x_if_eq hC dX22_tries_113 (q := 116) rfl (tgt := 205) rfl (fun h113 => ?_) (fun h113 => ?_)
      · have hsk : kSkB F σ hh t k (kTl F σ hh t k (fun l s y => kTri F σ hh t k d (p1 + 1) l free s y) p1 left sum c1 (if free ≤ 0 then z else kTri F σ hh t k d (p1 + 1) left (free - 1) sum (kZr z p1 (-1)))) p1 left c1 = true := by
          unfold kSkB
          rw [(b_at0 left (by omega)).mp h113]; rfl
        refine x_iinc hC dX22_tries_205 (q := 208) rfl rfl (v := nI (c1 + 1)) (nI_1 c1) ?_
        refine x_goto hC dX22_tries_208 (tgt := 95) rfl ?_
        first
          | (refine x_geq (g' := kmix (kT σ f3) (kBF (kGF gF as aR aB (kA σ 21 kq) al (kTl F σ hh t k (fun l s y => kTri F σ hh t k d (p1 + 1) l free s y) p1 left sum (c1 + 1) (if free ≤ 0 then z else kTri F σ hh t k d (p1 + 1) left (free - 1) sum (kZr z p1 (-1)))) (kA σ 0 0)) a aT aC (kA σ 21 kq) hh (kA σ 0 0) t k)) (by rw [show (kTl F σ hh t k (fun l s y => kTri F σ hh t k d (p1 + 1) l free s y) p1 left sum (c1 + 1) (if free ≤ 0 then z else kTri F σ hh t k d (p1 + 1) left (free - 1) sum (kZr z p1 (-1)))) = (kTl F σ hh t k (fun l s y => kTri F σ hh t k d (p1 + 1) l free s y) p1 left sum c1 (if free ≤ 0 then z else kTri F σ hh t k d (p1 + 1) left (free - 1) sum (kZr z p1 (-1)))) from if_pos hsk]) ?_
             exact ih (c1 + 1, f3) (by dsimp only; omega) (by dsimp only; omega))
          | (refine x_geq (g' := kmix (kT σ f2) (kBF (kGF gF as aR aB (kA σ 21 kq) al (kTl F σ hh t k (fun l s y => kTri F σ hh t k d (p1 + 1) l free s y) p1 left sum (c1 + 1) (if free ≤ 0 then z else kTri F σ hh t k d (p1 + 1) left (free - 1) sum (kZr z p1 (-1)))) (kA σ 0 0)) a aT aC (kA σ 21 kq) hh (kA σ 0 0) t k)) (by rw [show (kTl F σ hh t k (fun l s y => kTri F σ hh t k d (p1 + 1) l free s y) p1 left sum (c1 + 1) (if free ≤ 0 then z else kTri F σ hh t k d (p1 + 1) left (free - 1) sum (kZr z p1 (-1)))) = (kTl F σ hh t k (fun l s y => kTri F σ hh t k d (p1 + 1) l free s y) p1 left sum c1 (if free ≤ 0 then z else kTri F σ hh t k d (p1 + 1) left (free - 1) sum (kZr z p1 (-1)))) from if_pos hsk]) ?_
             exact ih (c1 + 1, f2) (by dsimp only; omega) (by dsimp only; omega))
      have hbl : bt left c1 = true := by
        cases hb : bt left c1 with
        | true => rfl
        | false => exact absurd ((b_at0 left (by omega)).mpr hb) h113
      refine x_aloadr_n hC dX22_tries_116 (q := 117) rfl rfl ?_
      refine x_get hC xf_X22_76_18 dX22_tries_117 (q := 120) rfl (n := (55, 0)) rfl rfl ?_
      refine x_iload hC dX22_tries_120 (q := 122) rfl rfl ?_
      refine x_aald hC dX22_tries_122 (q := 123) rfl (n := (58, 0)) rfl (j := c1) rfl hc8 (by decide) rfl ?_
      refine x_iload_n hC dX22_tries_123 (q := 124) rfl rfl ?_
      refine x_zald hC dX22_tries_124 (q := 125) rfl (n := (59, c1)) (kBF_59 hc8) (j := p1) rfl (by omega) (by decide) ?_
      refine x_if_ne hC dX22_tries_125 (q := 128) rfl (tgt := 205) rfl (fun h125 => ?_) (fun h125 => ?_)
      · have hsk : kSkB F σ hh t k (kTl F σ hh t k (fun l s y => kTri F σ hh t k d (p1 + 1) l free s y) p1 left sum c1 (if free ≤ 0 then z else kTri F σ hh t k d (p1 + 1) left (free - 1) sum (kZr z p1 (-1)))) p1 left c1 = true := by
          unfold kSkB
          rw [decide_eq_false (show ¬ k c1 p1 = 0 from h125)]; simp
        refine x_iinc hC dX22_tries_205 (q := 208) rfl rfl (v := nI (c1 + 1)) (nI_1 c1) ?_
        refine x_goto hC dX22_tries_208 (tgt := 95) rfl ?_
        first
          | (refine x_geq (g' := kmix (kT σ f3) (kBF (kGF gF as aR aB (kA σ 21 kq) al (kTl F σ hh t k (fun l s y => kTri F σ hh t k d (p1 + 1) l free s y) p1 left sum (c1 + 1) (if free ≤ 0 then z else kTri F σ hh t k d (p1 + 1) left (free - 1) sum (kZr z p1 (-1)))) (kA σ 0 0)) a aT aC (kA σ 21 kq) hh (kA σ 0 0) t k)) (by rw [show (kTl F σ hh t k (fun l s y => kTri F σ hh t k d (p1 + 1) l free s y) p1 left sum (c1 + 1) (if free ≤ 0 then z else kTri F σ hh t k d (p1 + 1) left (free - 1) sum (kZr z p1 (-1)))) = (kTl F σ hh t k (fun l s y => kTri F σ hh t k d (p1 + 1) l free s y) p1 left sum c1 (if free ≤ 0 then z else kTri F σ hh t k d (p1 + 1) left (free - 1) sum (kZr z p1 (-1)))) from if_pos hsk]) ?_
             exact ih (c1 + 1, f3) (by dsimp only; omega) (by dsimp only; omega))
          | (refine x_geq (g' := kmix (kT σ f2) (kBF (kGF gF as aR aB (kA σ 21 kq) al (kTl F σ hh t k (fun l s y => kTri F σ hh t k d (p1 + 1) l free s y) p1 left sum (c1 + 1) (if free ≤ 0 then z else kTri F σ hh t k d (p1 + 1) left (free - 1) sum (kZr z p1 (-1)))) (kA σ 0 0)) a aT aC (kA σ 21 kq) hh (kA σ 0 0) t k)) (by rw [show (kTl F σ hh t k (fun l s y => kTri F σ hh t k d (p1 + 1) l free s y) p1 left sum (c1 + 1) (if free ≤ 0 then z else kTri F σ hh t k d (p1 + 1) left (free - 1) sum (kZr z p1 (-1)))) = (kTl F σ hh t k (fun l s y => kTri F σ hh t k d (p1 + 1) l free s y) p1 left sum c1 (if free ≤ 0 then z else kTri F σ hh t k d (p1 + 1) left (free - 1) sum (kZr z p1 (-1)))) from if_pos hsk]) ?_
             exact ih (c1 + 1, f2) (by dsimp only; omega) (by dsimp only; omega))
      have hk0 : k c1 p1 = 0 := h125
      refine x_cut 167 (fun i : aEnv => ((0 : Nat), (0 : Nat), kmix (kT σ i) (kBF (kGF gF as aR aB (kA σ 21 kq) al (kTl F σ hh t k (fun l s y => kTri F σ hh t k d (p1 + 1) l free s y) p1 left sum c1 (if free ≤ 0 then z else kTri F σ hh t k d (p1 + 1) left (free - 1) sum (kZr z p1 (-1)))) (kA σ 0 0)) a aT aC (kA σ 21 kq) hh (kA σ 0 0) t k), ([some (.ref as), some (.ref a), some (.int (nI p1)), some (.int left), some (.int free), some (.int sum), some (.int (nI c1))] : xL), ([] : List Value))) (fun _ => ¬ kSkB F σ hh t k (kTl F σ hh t k (fun l s y => kTri F σ hh t k d (p1 + 1) l free s y) p1 left sum c1 (if free ≤ 0 then z else kTri F σ hh t k d (p1 + 1) left (free - 1) sum (kZr z p1 (-1)))) p1 left c1 = true) ?_ (fun hcut => ?_)
      · intro f3 hnsk
        dsimp only
        refine x_aloadr_n hC dX22_tries_167 (q := 168) rfl rfl ?_
        refine x_get hC xf_X22_15_19 dX22_tries_168 (q := 171) rfl (n := (61, 0)) rfl rfl ?_
        refine x_iload_n hC dX22_tries_171 (q := 172) rfl rfl ?_
        refine x_iload hC dX22_tries_172 (q := 174) rfl rfl ?_
        refine x_iast hC dX22_tries_174 (q := 175) rfl (n := (62, 0)) rfl rfl (j := p1) rfl (by omega) (by decide) ?_
        refine x_geq (g' := kmix (kT σ f3) (kBF (kGF gF as aR aB (kA σ 21 kq) al (kZr (kTl F σ hh t k (fun l s y => kTri F σ hh t k d (p1 + 1) l free s y) p1 left sum c1 (if free ≤ 0 then z else kTri F σ hh t k d (p1 + 1) left (free - 1) sum (kZr z p1 (-1)))) p1 (nI c1)) (kA σ 0 0)) a aT aC (kA σ 21 kq) hh (kA σ 0 0) t k)) (by rw [kmix_xuF _ _ _ _ rfl, kBF_xu (by decide)]; exact congrArg (fun q => kmix (kT σ f3) (kBF q a aT aC (kA σ 21 kq) hh (kA σ 0 0) t k)) kGF_row) ?_
        refine x_aloadr_n hC dX22_tries_175 (q := 176) rfl rfl ?_
        refine x_aloadr_n hC dX22_tries_176 (q := 177) rfl rfl ?_
        refine x_iload_n hC dX22_tries_177 (q := 178) rfl rfl ?_
        refine x_iconst hC dX22_tries_178 (q := 179) rfl (v := (1)) (by decide) ?_
        refine x_iadd hC dX22_tries_179 (q := 180) rfl ?_
        refine x_iload_n hC dX22_tries_180 (q := 181) rfl rfl ?_
        refine x_iconst hC dX22_tries_181 (q := 182) rfl (v := (1)) (by decide) ?_
        refine x_iload hC dX22_tries_182 (q := 184) rfl rfl ?_
        refine x_ishl hC dX22_tries_184 (q := 185) rfl ?_
        refine x_iconst hC dX22_tries_185 (q := 186) rfl (v := (-1)) (by decide) ?_
        refine x_ixor hC dX22_tries_186 (q := 187) rfl ?_
        refine x_iand hC dX22_tries_187 (q := 188) rfl ?_
        refine x_iload hC dX22_tries_188 (q := 190) rfl rfl ?_
        refine x_iload hC dX22_tries_190 (q := 192) rfl rfl ?_
        refine x_aloadr_n hC dX22_tries_192 (q := 193) rfl rfl ?_
        refine x_get hC xf_X22_84_18 dX22_tries_193 (q := 196) rfl (n := (55, 0)) rfl rfl ?_
        refine x_iload hC dX22_tries_196 (q := 198) rfl rfl ?_
        refine x_aald hC dX22_tries_198 (q := 199) rfl (n := (56, 0)) rfl (j := c1) rfl hc8 (by decide) rfl ?_
        refine x_iload_n hC dX22_tries_199 (q := 200) rfl rfl ?_
        refine x_iald hC dX22_tries_200 (q := 201) rfl (n := (57, c1)) (kBF_57 hc8) (j := p1) rfl (by omega) (by decide) ?_
        refine x_iadd hC dX22_tries_201 (q := 202) rfl ?_
        refine x_steq (st1 := [.int (sum + t c1 p1), .int free, .int (left &&& (((1 : Int32) <<< (nI c1 &&& 31)) ^^^ (-1))), .int (nI (p1 + 1)), .ref a, .ref as]) (by rw [nI_1]) ?_
        refine x_callV hC xv_X22_71 dX22_tries_202 (q := 205) rfl rfl (hih (p1 + 1) (left &&& (((1 : Int32) <<< (nI c1 &&& 31)) ^^^ (-1))) free (sum + t c1 p1) (kZr (kTl F σ hh t k (fun l s y => kTri F σ hh t k d (p1 + 1) l free s y) p1 left sum c1 (if free ≤ 0 then z else kTri F σ hh t k d (p1 + 1) left (free - 1) sum (kZr z p1 (-1)))) p1 (nI c1)) f3 (by omega) (kRv_s hrvc (Or.inr ⟨c1, hc2, rfl⟩))) (nn := (61, 0)) rfl rfl rfl (Nat.le_of_ble_eq_true rfl) ⟨(show 40 + d + 1 ≤ 40 + (d + 1) by omega), (show 8 + (7 + 11) + (1750 + 30 * d) ≤ 1750 + 30 * (d + 1) by omega)⟩ ⟨(Nat.le_of_ble_eq_true rfl), (Nat.le_of_ble_eq_true rfl)⟩ (fun v g1 hp => ?_)
        obtain ⟨f4, rfl, hg1⟩ := hp
        replace hg1 := hg1.symm
        subst hg1
        refine x_iinc hC dX22_tries_205 (q := 208) rfl rfl (v := nI (c1 + 1)) (nI_1 c1) ?_
        refine x_goto hC dX22_tries_208 (tgt := 95) rfl ?_
        refine x_geq (g' := kmix (kT σ f4) (kBF (kGF gF as aR aB (kA σ 21 kq) al (kTl F σ hh t k (fun l s y => kTri F σ hh t k d (p1 + 1) l free s y) p1 left sum (c1 + 1) (if free ≤ 0 then z else kTri F σ hh t k d (p1 + 1) left (free - 1) sum (kZr z p1 (-1)))) (kA σ 0 0)) a aT aC (kA σ 21 kq) hh (kA σ 0 0) t k)) (by rw [show (kTl F σ hh t k (fun l s y => kTri F σ hh t k d (p1 + 1) l free s y) p1 left sum (c1 + 1) (if free ≤ 0 then z else kTri F σ hh t k d (p1 + 1) left (free - 1) sum (kZr z p1 (-1)))) = kTri F σ hh t k d (p1 + 1) (left &&& (((1 : Int32) <<< (nI c1 &&& 31)) ^^^ (-1))) free (sum + t c1 p1) (kZr (kTl F σ hh t k (fun l s y => kTri F σ hh t k d (p1 + 1) l free s y) p1 left sum c1 (if free ≤ 0 then z else kTri F σ hh t k d (p1 + 1) left (free - 1) sum (kZr z p1 (-1)))) p1 (nI c1)) from if_neg hnsk]) ?_
        exact ih (c1 + 1, f4) (by dsimp only; omega) (by dsimp only; omega)
      refine x_iload_n hC dX22_tries_128 (q := 129) rfl rfl ?_
      refine x_if_le hC dX22_tries_129 (q := 132) rfl (tgt := 167) rfl (fun h129 => ?_) (fun h129 => ?_)
      · have hp0 : p1 = 0 := by
          have h2 : nI p1 ≤ nI 0 := h129
          have := (nI_leI (by omega) (by decide)).mp h2
          omega
        have hnsk : ¬ kSkB F σ hh t k (kTl F σ hh t k (fun l s y => kTri F σ hh t k d (p1 + 1) l free s y) p1 left sum c1 (if free ≤ 0 then z else kTri F σ hh t k d (p1 + 1) left (free - 1) sum (kZr z p1 (-1)))) p1 left c1 = true := by
          unfold kSkB
          rw [hbl, decide_eq_true hk0, decide_eq_false (show ¬ 0 < p1 by omega)]; simp
        exact hcut f2 hnsk
      have hp0 : 0 < p1 := by
        have h2 : ¬ nI p1 ≤ nI 0 := h129
        rw [nI_leI (by omega) (by decide)] at h2
        omega
      refine x_aloadr_n hC dX22_tries_132 (q := 133) rfl rfl ?_
      refine x_get hC xf_X22_15_19 dX22_tries_133 (q := 136) rfl (n := (61, 0)) rfl rfl ?_
      refine x_iload_n hC dX22_tries_136 (q := 137) rfl rfl ?_
      refine x_iconst hC dX22_tries_137 (q := 138) rfl (v := (1)) (by decide) ?_
      refine x_isub hC dX22_tries_138 (q := 139) rfl ?_
      refine x_iald hC dX22_tries_139 (q := 140) rfl (n := (62, 0)) rfl (j := p1 - 1) (nI_m1 hp0) (by omega) (by decide) ?_
      refine x_iconst hC dX22_tries_140 (q := 141) rfl (v := (-1)) (by decide) ?_
      refine x_icmp_eq hC dX22_tries_141 (q := 144) rfl (tgt := 167) rfl (fun h141 => ?_) (fun h141 => ?_)
      · have hnsk : ¬ kSkB F σ hh t k (kTl F σ hh t k (fun l s y => kTri F σ hh t k d (p1 + 1) l free s y) p1 left sum c1 (if free ≤ 0 then z else kTri F σ hh t k d (p1 + 1) left (free - 1) sum (kZr z p1 (-1)))) p1 left c1 = true := by
          unfold kSkB
          rw [hbl, decide_eq_true hk0, decide_eq_true (show (kTl F σ hh t k (fun l s y => kTri F σ hh t k d (p1 + 1) l free s y) p1 left sum c1 (if free ≤ 0 then z else kTri F σ hh t k d (p1 + 1) left (free - 1) sum (kZr z p1 (-1)))).1 (p1 - 1) = -1 from h141)]; simp
        exact hcut f2 hnsk
      obtain ⟨e1, he1, hre⟩ : ∃ c, c < kA σ 61 0 ∧ (kTl F σ hh t k (fun l s y => kTri F σ hh t k d (p1 + 1) l free s y) p1 left sum c1 (if free ≤ 0 then z else kTri F σ hh t k d (p1 + 1) left (free - 1) sum (kZr z p1 (-1)))).1 (p1 - 1) = nI c := by
        rcases hrvc (p1 - 1) (by omega) with q | q
        · exact absurd q h141
        · exact q
      have hen : ((kTl F σ hh t k (fun l s y => kTri F σ hh t k d (p1 + 1) l free s y) p1 left sum c1 (if free ≤ 0 then z else kTri F σ hh t k d (p1 + 1) left (free - 1) sum (kZr z p1 (-1)))).1 (p1 - 1)).toInt.toNat = e1 := by rw [hre, nI_toInt (by omega)]; rfl
      refine x_aloadr_n hC dX22_tries_144 (q := 145) rfl rfl ?_
      refine x_aloadr_n hC dX22_tries_145 (q := 146) rfl rfl ?_
      refine x_get hC xf_X22_15_19 dX22_tries_146 (q := 149) rfl (n := (61, 0)) rfl rfl ?_
      refine x_iload_n hC dX22_tries_149 (q := 150) rfl rfl ?_
      refine x_iconst hC dX22_tries_150 (q := 151) rfl (v := (1)) (by decide) ?_
      refine x_isub hC dX22_tries_151 (q := 152) rfl ?_
      refine x_iald hC dX22_tries_152 (q := 153) rfl (n := (62, 0)) rfl (j := p1 - 1) (nI_m1 hp0) (by omega) (by decide) ?_
      refine x_iload hC dX22_tries_153 (q := 155) rfl rfl ?_
      refine x_iload_n hC dX22_tries_155 (q := 156) rfl rfl ?_
      refine x_iconst hC dX22_tries_156 (q := 157) rfl (v := (1)) (by decide) ?_
      refine x_isub hC dX22_tries_157 (q := 158) rfl ?_
      refine x_steq (st1 := [.int (nI (p1 - 1)), .int (nI c1), .int (nI e1), .ref a]) (by rw [nI_m1 hp0, hre]) ?_
      refine x_callV hC xv_X22_80 dX22_tries_158 (q := 161) rfl rfl (m_X21_doStick h0 σ (kGF gF as aR aB (kA σ 21 kq) al (kTl F σ hh t k (fun l s y => kTri F σ hh t k d (p1 + 1) l free s y) p1 left sum c1 (if free ≤ 0 then z else kTri F σ hh t k d (p1 + 1) left (free - 1) sum (kZr z p1 (-1)))) (kA σ 0 0)) f2 (kF_mono hF (kGF_sub hNG)) hw (kNB_GF hNB) hq e1 c1 (p1 - 1) he1 hc2 (by omega)) (nn := (55, 0)) rfl rfl rfl (Nat.le_of_ble_eq_true rfl) ⟨(show 38 + 1 ≤ 40 + (d + 1) by omega), (show 8 + (4 + 11) + 1600 ≤ 1750 + 30 * (d + 1) by omega)⟩ ⟨(Nat.le_of_ble_eq_true rfl), (Nat.le_of_ble_eq_true rfl)⟩ (fun v g1 hp => ?_)
      obtain ⟨f3, rfl, hg1⟩ := hp
      replace hg1 := hg1.symm
      subst hg1
      rw [show p1 - 1 + 1 = p1 by omega]
      refine x_if_eq hC dX22_tries_161 (q := 164) rfl (tgt := 167) rfl (fun h161 => ?_) (fun h161 => ?_)
      · have hnsk : ¬ kSkB F σ hh t k (kTl F σ hh t k (fun l s y => kTri F σ hh t k d (p1 + 1) l free s y) p1 left sum c1 (if free ≤ 0 then z else kTri F σ hh t k d (p1 + 1) left (free - 1) sum (kZr z p1 (-1)))) p1 left c1 = true := by
          unfold kSkB
          rw [hbl, decide_eq_true hk0, hen, decide_eq_true (show kStick F σ e1 (t e1 (p1 - 1)) c1 (t c1 p1) hh = 0 from h161)]; simp
        exact hcut f3 hnsk
      have hsk : kSkB F σ hh t k (kTl F σ hh t k (fun l s y => kTri F σ hh t k d (p1 + 1) l free s y) p1 left sum c1 (if free ≤ 0 then z else kTri F σ hh t k d (p1 + 1) left (free - 1) sum (kZr z p1 (-1)))) p1 left c1 = true := by
        unfold kSkB
        rw [hen, decide_eq_false (show ¬ kStick F σ e1 (t e1 (p1 - 1)) c1 (t c1 p1) hh = 0 from h161), decide_eq_true hp0, decide_eq_false (show ¬ (kTl F σ hh t k (fun l s y => kTri F σ hh t k d (p1 + 1) l free s y) p1 left sum c1 (if free ≤ 0 then z else kTri F σ hh t k d (p1 + 1) left (free - 1) sum (kZr z p1 (-1)))).1 (p1 - 1) = -1 from h141)]; simp
      refine x_goto hC dX22_tries_164 (tgt := 205) rfl ?_
      refine x_iinc hC dX22_tries_205 (q := 208) rfl rfl (v := nI (c1 + 1)) (nI_1 c1) ?_
      refine x_goto hC dX22_tries_208 (tgt := 95) rfl ?_
      first
        | (refine x_geq (g' := kmix (kT σ f3) (kBF (kGF gF as aR aB (kA σ 21 kq) al (kTl F σ hh t k (fun l s y => kTri F σ hh t k d (p1 + 1) l free s y) p1 left sum (c1 + 1) (if free ≤ 0 then z else kTri F σ hh t k d (p1 + 1) left (free - 1) sum (kZr z p1 (-1)))) (kA σ 0 0)) a aT aC (kA σ 21 kq) hh (kA σ 0 0) t k)) (by rw [show (kTl F σ hh t k (fun l s y => kTri F σ hh t k d (p1 + 1) l free s y) p1 left sum (c1 + 1) (if free ≤ 0 then z else kTri F σ hh t k d (p1 + 1) left (free - 1) sum (kZr z p1 (-1)))) = (kTl F σ hh t k (fun l s y => kTri F σ hh t k d (p1 + 1) l free s y) p1 left sum c1 (if free ≤ 0 then z else kTri F σ hh t k d (p1 + 1) left (free - 1) sum (kZr z p1 (-1)))) from if_pos hsk]) ?_
           exact ih (c1 + 1, f3) (by dsimp only; omega) (by dsimp only; omega))
        | (refine x_geq (g' := kmix (kT σ f2) (kBF (kGF gF as aR aB (kA σ 21 kq) al (kTl F σ hh t k (fun l s y => kTri F σ hh t k d (p1 + 1) l free s y) p1 left sum (c1 + 1) (if free ≤ 0 then z else kTri F σ hh t k d (p1 + 1) left (free - 1) sum (kZr z p1 (-1)))) (kA σ 0 0)) a aT aC (kA σ 21 kq) hh (kA σ 0 0) t k)) (by rw [show (kTl F σ hh t k (fun l s y => kTri F σ hh t k d (p1 + 1) l free s y) p1 left sum (c1 + 1) (if free ≤ 0 then z else kTri F σ hh t k d (p1 + 1) left (free - 1) sum (kZr z p1 (-1)))) = (kTl F σ hh t k (fun l s y => kTri F σ hh t k d (p1 + 1) l free s y) p1 left sum c1 (if free ≤ 0 then z else kTri F σ hh t k d (p1 + 1) left (free - 1) sum (kZr z p1 (-1)))) from if_pos hsk]) ?_
           exact ih (c1 + 1, f2) (by dsimp only; omega) (by dsimp only; omega))
    refine x_iload hC dX22_tries_65 (q := 67) rfl rfl ?_
    refine x_if_le hC dX22_tries_67 (q := 70) rfl (tgt := 92) rfl (fun h67 => ?_) (fun h67 => ?_)
    · refine x_geq (g' := kmix (kT σ f) (kBF (kGF gF as aR aB (kA σ 21 kq) al (if free ≤ 0 then z else kTri F σ hh t k d (p1 + 1) left (free - 1) sum (kZr z p1 (-1))) (kA σ 0 0)) a aT aC (kA σ 21 kq) hh (kA σ 0 0) t k)) (by rw [if_pos (show free ≤ 0 from h67)]) ?_
      exact hcut f trivial
    have hfr : ¬ free ≤ 0 := h67
    refine x_aloadr_n hC dX22_tries_70 (q := 71) rfl rfl ?_
    refine x_get hC xf_X22_15_19 dX22_tries_71 (q := 74) rfl (n := (61, 0)) rfl rfl ?_
    refine x_iload_n hC dX22_tries_74 (q := 75) rfl rfl ?_
    refine x_iconst hC dX22_tries_75 (q := 76) rfl (v := (-1)) (by decide) ?_
    refine x_iast hC dX22_tries_76 (q := 77) rfl (n := (62, 0)) rfl rfl (j := p1) rfl (by omega) (by decide) ?_
    refine x_geq (g' := kmix (kT σ f) (kBF (kGF gF as aR aB (kA σ 21 kq) al (kZr z p1 (-1)) (kA σ 0 0)) a aT aC (kA σ 21 kq) hh (kA σ 0 0) t k)) (by rw [kmix_xuF _ _ _ _ rfl, kBF_xu (by decide)]; exact congrArg (fun q => kmix (kT σ f) (kBF q a aT aC (kA σ 21 kq) hh (kA σ 0 0) t k)) kGF_row) ?_
    refine x_aloadr_n hC dX22_tries_77 (q := 78) rfl rfl ?_
    refine x_aloadr_n hC dX22_tries_78 (q := 79) rfl rfl ?_
    refine x_iload_n hC dX22_tries_79 (q := 80) rfl rfl ?_
    refine x_iconst hC dX22_tries_80 (q := 81) rfl (v := (1)) (by decide) ?_
    refine x_iadd hC dX22_tries_81 (q := 82) rfl ?_
    refine x_iload_n hC dX22_tries_82 (q := 83) rfl rfl ?_
    refine x_iload hC dX22_tries_83 (q := 85) rfl rfl ?_
    refine x_iconst hC dX22_tries_85 (q := 86) rfl (v := (1)) (by decide) ?_
    refine x_isub hC dX22_tries_86 (q := 87) rfl ?_
    refine x_iload hC dX22_tries_87 (q := 89) rfl rfl ?_
    refine x_steq (st1 := [.int sum, .int (free - 1), .int left, .int (nI (p1 + 1)), .ref a, .ref as]) (by rw [nI_1]) ?_
    refine x_callV hC xv_X22_71 dX22_tries_89 (q := 92) rfl rfl (hih (p1 + 1) left (free - 1) sum (kZr z p1 (-1)) f (by omega) (kRv_s hrv (Or.inl rfl))) (nn := (61, 0)) rfl rfl rfl (Nat.le_of_ble_eq_true rfl) ⟨(show 40 + d + 1 ≤ 40 + (d + 1) by omega), (show 8 + (7 + 11) + (1750 + 30 * d) ≤ 1750 + 30 * (d + 1) by omega)⟩ ⟨(Nat.le_of_ble_eq_true rfl), (Nat.le_of_ble_eq_true rfl)⟩ (fun v g1 hp => ?_)
    obtain ⟨f1, rfl, hg1⟩ := hp
    replace hg1 := hg1.symm
    subst hg1
    refine x_geq (g' := kmix (kT σ f1) (kBF (kGF gF as aR aB (kA σ 21 kq) al (if free ≤ 0 then z else kTri F σ hh t k d (p1 + 1) left (free - 1) sum (kZr z p1 (-1))) (kA σ 0 0)) a aT aC (kA σ 21 kq) hh (kA σ 0 0) t k)) (by rw [if_neg hfr]) ?_
    exact hcut _ trivial
  · exact absurd ((nI_eq (by omega) (by omega)).mp (show nI p1 = nI (kA σ 25 kq) from h8)) (by omega)

theorem m_tries {l : Launch} {s0 : State} {D : va_G} (h0 : x0 l s0 D) (σ : KS) (gF : xG) {F : Nat → Option (aEnv → Int64)} (hF : kF gF σ F) (hw : KW σ) (hNB : kNB gF) (hNG : kNG gF) {a as aR aB aT aC kq : Nat} (hq : kq < kA σ 62 0) {hh al : Int32} {t k : Nat → Nat → Int32} : ∀ (d p1 : Nat) (left free sum : Int32) (z : KZ) (f : aEnv), p1 + d = kA σ 25 kq → kRv σ z p1 → xMet l s0 D yX22_tries cX22_tries 7 none (xr (40 + d) 0 0 (1750 + 30 * d)) [.ref as, .ref a, .int (nI p1), .int left, .int free, .int sum] (kmix (kT σ f) (kBF (kGF gF as aR aB (kA σ 21 kq) al z (kA σ 0 0)) a aT aC (kA σ 21 kq) hh (kA σ 0 0) t k)) (fun r g1 => ∃ f1, r = none ∧ g1 = kmix (kT σ f1) (kBF (kGF gF as aR aB (kA σ 21 kq) al (kTri F σ hh t k d p1 left free sum z) (kA σ 0 0)) a aT aC (kA σ 21 kq) hh (kA σ 0 0) t k)) := by
  intro d
  induction d with
  | zero => intro p1 left free sum z f hp _; exact m_tries_0 h0 σ gF hF hw hNB hNG hq f p1 hp left free sum z
  | succ d ih => intro p1 left free sum z f hp hv; exact m_tries_s h0 σ gF hF hw hNB hNG hq d ih p1 left free sum z f hp hv
