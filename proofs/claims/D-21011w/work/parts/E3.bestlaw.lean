/-! best(): plain laws of the search -/
def oI (o : Option Nat) : Int32 := match o with
  | none => -1
  | some c => nI c
theorem oI_neg {o : Option Nat} (h : ∀ c, o = some c → c < 100000) : oI o = -1 ↔ o = none := by
  cases o with
  | none => exact ⟨fun _ => rfl, fun _ => rfl⟩
  | some c =>
    refine ⟨fun e => ?_, fun e => by cases e⟩
    have e1 : nI c = iI (-1) := e
    rw [← iI_nat] at e1
    have := (iI_eq (iB_nat (show c < 2147483648 by have := h c rfl; omega)) ⟨by decide, by decide⟩).mp e1
    omega
section BST
variable {F : Nat → Option (aEnv → Int64)} {σ : KS} {q : Nat} {hh : Int32}
/-- children at the first p places, as a setting at a heat -/
def wOk (F : Nat → Option (aEnv → Int64)) (σ : KS) (q : Nat) (hh : Int32) (w : Nat → Option Nat) (p : Nat) : Prop := ∀ j, j < p → ∀ c, w j = some c → (c < kA σ 61 0 ∧ kO σ 0 c 0 = some q) ∧ kBK F σ q hh c j = 0 ∧ (∀ i, i < j → ¬ w i = some c) ∧ ∀ d, 0 < j → w (j - 1) = some d → kStick F σ d (kBT F σ q hh d (j - 1)) c (kBT F σ q hh c j) hh = 0
def wSum (t : Nat → Nat → Int32) (w : Nat → Option Nat) : Nat → Int32
  | 0 => 0
  | p + 1 => match w p with
    | none => wSum t w p
    | some c => wSum t w p + t c p
theorem wSum_n {t : Nat → Nat → Int32} {w : Nat → Option Nat} {p : Nat} (h : w p = none) : wSum t w (p + 1) = wSum t w p := by
  show (match w p with | none => wSum t w p | some c => wSum t w p + t c p) = _
  rw [h]
theorem wSum_s {t : Nat → Nat → Int32} {w : Nat → Option Nat} {p c : Nat} (h : w p = some c) : wSum t w (p + 1) = wSum t w p + t c p := by
  show (match w p with | none => wSum t w p | some c => wSum t w p + t c p) = _
  rw [h]
theorem wSum_eq {t : Nat → Nat → Int32} {w w' : Nat → Option Nat} : ∀ {p : Nat}, (∀ j, j < p → w j = w' j) → wSum t w p = wSum t w' p
  | 0, _ => rfl
  | p + 1, h => by
    have ih := wSum_eq (t := t) (fun j hj => h j (show j < p + 1 by omega)) (p := p)
    cases e : w' p with
    | none => rw [wSum_n e, wSum_n ((h p (by omega)).trans e), ih]
    | some c => rw [wSum_s e, wSum_s ((h p (by omega)).trans e), ih]
theorem kCnt_n {w : Nat → Option Nat} {p : Nat} (h : w p = none) : kCnt w (p + 1) = kCnt w p := by
  show kCnt w p + (match w p with | none => 0 | some _ => 1) = _
  rw [h]
  rfl
theorem kCnt_s {w : Nat → Option Nat} {p c : Nat} (h : w p = some c) : kCnt w (p + 1) = kCnt w p + 1 := by
  show kCnt w p + (match w p with | none => 0 | some _ => 1) = _
  rw [h]
theorem kCnt_eq {w w' : Nat → Option Nat} {p : Nat} (h : ∀ j, j < p → w j = w' j) : kCnt w p = kCnt w' p := by
  rw [kCnt_sm, kCnt_sm]
  exact sm_ext (fun j hj => by rw [h j hj])
theorem kCnt_gap {w : Nat → Option Nat} {p : Nat} : ∀ m, p - kCnt w p ≤ p + m - kCnt w (p + m)
  | 0 => Nat.le_refl _
  | m + 1 => by
    have ih := kCnt_gap (w := w) (p := p) m
    have h1 := kCnt_le w (p + m)
    rw [show p + (m + 1) = p + m + 1 from rfl]
    cases e : w (p + m) with
    | none => rw [kCnt_n e]; omega
    | some c => rw [kCnt_s e]; omega
theorem sm_le {f g : Nat → Nat} : ∀ {n : Nat}, (∀ j, j < n → f j ≤ g j) → sm f n ≤ sm g n
  | 0, _ => Nat.le_refl _
  | n + 1, h => by
    show sm f n + f n ≤ sm g n + g n
    have := sm_le (fun j hj => h j (show j < n + 1 by omega)) (n := n)
    have := h n (by omega)
    omega
theorem sm_pt (a x : Nat) : ∀ n, sm (fun j => if j = a then x else 0) n = if a < n then x else 0
  | 0 => by rw [if_neg (Nat.not_lt_zero a)]; rfl
  | n + 1 => by
    show sm (fun j => if j = a then x else 0) n + (if n = a then x else 0) = _
    rw [sm_pt a x n]
    by_cases h1 : a < n
    · rw [if_pos h1, if_neg (by omega), if_pos (by omega)]; omega
    · by_cases h2 : n = a
      · rw [if_neg h1, if_pos h2, if_pos (by omega)]; omega
      · rw [if_neg h1, if_neg h2, if_neg (by omega)]
theorem wOk.cnt {w : Nat → Option Nat} {p : Nat} (h : wOk F σ q hh w p) : kCnt w p ≤ kNk σ q (kA σ 61 0) := by
  rw [kCnt_sm]
  have h1 : sm (fun j => if (w j).isSome then 1 else 0) p = sm (fun j => sm (fun c => if w j = some c then 1 else 0) (kA σ 61 0)) p := sm_ext fun j hj => by
    cases e : w j with
    | none =>
      rw [sm_ext (g := fun _ => 0) (fun c _ => if_neg (fun w => by cases w)), sm_z]
      rfl
    | some d =>
      have hd := (h j hj d e).1.1
      rw [sm_ext (g := fun c => if c = d then 1 else 0) (fun c _ => by
        by_cases w : c = d
        · rw [if_pos w, if_pos (by rw [w])]
        · rw [if_neg w, if_neg (fun v => w (by cases v; rfl))]), sm_one, if_pos hd]
      rfl
  rw [h1, sm_swap]
  refine sm_le fun c hc => ?_
  by_cases hx : ∃ j, j < p ∧ w j = some c
  · obtain ⟨j0, hj0, e0⟩ := hx
    rw [if_pos (h j0 hj0 c e0).1.2, sm_ext (g := fun j => if j = j0 then 1 else 0) (fun j hj => by
      by_cases e : j = j0
      · rw [if_pos e, e, if_pos e0]
      · rw [if_neg e, if_neg (fun e1 => by
          rcases Nat.lt_or_gt_of_ne e with v | v
          · exact (h j0 hj0 c e0).2.2.1 j v e1
          · exact (h j hj c e1).2.2.1 j0 v e0)]), sm_one, if_pos hj0]
    exact Nat.le_refl _
  · rw [sm_ext (g := fun _ => 0) (fun j hj => if_neg (fun e => hx ⟨j, hj, e⟩)), sm_z]
    exact Nat.zero_le _
/-- where the search stands -/
def tIn (F : Nat → Option (aEnv → Int64)) (σ : KS) (q : Nat) (hh : Int32) (w : Nat → Option Nat) (p : Nat) (left free sum : Int32) (row : Nat → Int32) : Prop := (∀ j, j < p → row j = oI (w j)) ∧ wOk F σ q hh w p ∧ (∀ i, i < 32 → (bt left i = true ↔ (i < kA σ 61 0 ∧ kO σ 0 i 0 = some q) ∧ ∀ j, j < p → ¬ w j = some i)) ∧ (∃ fr : Nat, free = nI fr ∧ (p - kCnt w p) + fr = kA σ 25 q - kFull σ q) ∧ sum = wSum (kBT F σ q hh) w p
theorem wOk.eq {w w' : Nat → Option Nat} {p : Nat} (h : wOk F σ q hh w p) (e : ∀ j, j < p → w j = w' j) : wOk F σ q hh w' p := fun j hj c hc => by
  obtain ⟨a, b, d, f⟩ := h j hj c ((e j hj).trans hc)
  refine ⟨a, b, fun i hi w => d i hi ((e i (by omega)).trans w), fun d hd w => f d hd ((e (j - 1) (by omega)).trans w)⟩
theorem tIn.eq {w w' : Nat → Option Nat} {p : Nat} {left free sum : Int32} {row row' : Nat → Int32} (h : tIn F σ q hh w p left free sum row) (e : ∀ j, j < p → w j = w' j) (er : ∀ j, j < p → row' j = row j) : tIn F σ q hh w' p left free sum row' := by
  obtain ⟨h1, h2, h3, ⟨fr, h4, h5⟩, h6⟩ := h
  refine ⟨fun j hj => by rw [er j hj, h1 j hj, e j hj], h2.eq e, fun i hi => ?_, ⟨fr, h4, by rw [← kCnt_eq e]; exact h5⟩, by rw [h6, wSum_eq e]⟩
  rw [h3 i hi]
  exact ⟨fun a => ⟨a.1, fun j hj w => a.2 j hj ((e j hj).trans w)⟩, fun a => ⟨a.1, fun j hj w => a.2 j hj ((e j hj).symm.trans w)⟩⟩
theorem tIn.none {w : Nat → Option Nat} {p : Nat} {left free sum : Int32} {row : Nat → Int32} (h : tIn F σ q hh w p left free sum row) (hw : w p = none) (hf : ¬ free ≤ 0) (hb : kA σ 25 q < 100000) : tIn F σ q hh w (p + 1) left (free - 1) sum (upd row p (-1)) := by
  obtain ⟨h1, h2, h3, ⟨fr, h4, h5⟩, h6⟩ := h
  have hfr : 0 < fr := by
    rcases Nat.eq_zero_or_pos fr with e | e
    · subst e; subst h4; exact absurd (nI_le (a := 0) (b := 0) (Nat.le_refl _) (by decide)) hf
    · exact e
  have hkl := kCnt_le w p
  refine ⟨fun j hj => ?_, fun j hj c hc => ?_, fun i hi => ?_, ⟨fr - 1, ?_, ?_⟩, by rw [wSum_n hw]; exact h6⟩
  · unfold upd
    by_cases e : j = p
    · subst e; rw [if_pos rfl, hw]; rfl
    · rw [if_neg e]; exact h1 j (by omega)
  · refine h2 j ?_ c hc
    by_cases e : j = p
    · subst e; rw [hw] at hc; cases hc
    · omega
  · rw [h3 i hi]
    refine ⟨fun a => ⟨a.1, fun j hj w2 => ?_⟩, fun a => ⟨a.1, fun j hj => a.2 j (by omega)⟩⟩
    by_cases e : j = p
    · subst e; rw [hw] at w2; cases w2
    · exact a.2 j (by omega) w2
  · rw [h4]
    obtain ⟨f0, rfl⟩ : ∃ f0, fr = f0 + 1 := ⟨fr - 1, by omega⟩
    rw [← nI_1 f0, Int32.add_sub_cancel]; rfl
  · rw [kCnt_n hw]; omega
theorem tIn.some {w : Nat → Option Nat} {p c : Nat} {left free sum : Int32} {row : Nat → Int32} (h : tIn F σ q hh w p left free sum row) (hw : w p = some c) (hok : wOk F σ q hh w (p + 1)) (hc32 : c < 32) : tIn F σ q hh w (p + 1) (left &&& (((1 : Int32) <<< (nI c &&& 31)) ^^^ (-1))) free (sum + kBT F σ q hh c p) (upd row p (nI c)) := by
  obtain ⟨h1, h2, h3, ⟨fr, h4, h5⟩, h6⟩ := h
  have hc := kCnt_le w p
  refine ⟨fun j hj => ?_, hok, fun i hi => ?_, ⟨fr, h4, by rw [kCnt_s hw]; omega⟩, by rw [wSum_s hw, h6]⟩
  · unfold upd
    by_cases e : j = p
    · subst e; rw [if_pos rfl, hw]; rfl
    · rw [if_neg e]; exact h1 j (by omega)
  · rw [b_and, b_xor, b_one hc32 hi, b_m1 i hi]
    by_cases e : i = c
    · subst e
      simp only [decide_true, Bool.true_bne, Bool.not_true, Bool.and_false]
      refine ⟨fun a => by simp at a, fun a => absurd hw (a.2 p (by omega))⟩
    · have : (bt left i && (decide (i = c) ^^ true)) = bt left i := by simp [e]
      rw [this, h3 i hi]
      refine ⟨fun a => ⟨a.1, fun j hj w2 => ?_⟩, fun a => ⟨a.1, fun j hj => a.2 j (by omega)⟩⟩
      by_cases e2 : j = p
      · subst e2; rw [hw] at w2; cases w2; exact e rfl
      · exact a.2 j (by omega) w2
/-- what stands as the best so far -/
def Gd (F : Nat → Option (aEnv → Int64)) (σ : KS) (q : Nat) (z : KZ) : Prop := (z.2.2.1 = -1 ∧ z.2.2.2 = -1) ∨ ∃ h w, h ≤ 20 ∧ z.2.2.1 = nI h ∧ wOk F σ q (nI h) w (kA σ 25 q) ∧ kCnt w (kA σ 25 q) = kFull σ q ∧ (∀ j, j < kA σ 25 q → z.2.1 j = oI (w j)) ∧ z.2.2.2 = wSum (kBT F σ q (nI h)) w (kA σ 25 q)
def wPut (w : Nat → Option Nat) (p : Nat) (x : Option Nat) : Nat → Option Nat := fun j => if j = p then x else w j
theorem wPut_p (w : Nat → Option Nat) (p : Nat) (x : Option Nat) : wPut w p x p = x := if_pos rfl
theorem wPut_ne (w : Nat → Option Nat) (p : Nat) (x : Option Nat) {j : Nat} (h : j < p) : w j = wPut w p x j := (if_neg (by omega)).symm
theorem kSkB_f {t k : Nat → Nat → Int32} {z : KZ} {p c : Nat} {left : Int32} (h : ¬ kSkB F σ hh t k z p left c = true) : bt left c = true ∧ k c p = 0 ∧ (0 < p → ¬ z.1 (p - 1) = -1 → kStick F σ (z.1 (p - 1)).toInt.toNat (t (z.1 (p - 1)).toInt.toNat (p - 1)) c (t c p) hh = 0) := by
  unfold kSkB at h
  simp only [Bool.or_eq_true, Bool.not_eq_true', Bool.and_eq_true, decide_eq_true_eq, decide_eq_false_iff_not, not_or, not_and, Bool.not_eq_false, Decidable.not_not] at h
  exact ⟨h.1.1, h.1.2, fun a b => h.2 ⟨a, b⟩⟩
theorem kSkB_t {t k : Nat → Nat → Int32} {z : KZ} {p c : Nat} {left : Int32} (h1 : bt left c = true) (h2 : k c p = 0) (h3 : 0 < p → ¬ z.1 (p - 1) = -1 → kStick F σ (z.1 (p - 1)).toInt.toNat (t (z.1 (p - 1)).toInt.toNat (p - 1)) c (t c p) hh = 0) : ¬ kSkB F σ hh t k z p left c = true := by
  unfold kSkB
  simp only [Bool.or_eq_true, Bool.not_eq_true', Bool.and_eq_true, decide_eq_true_eq, decide_eq_false_iff_not, not_or, not_and, Bool.not_eq_false, Decidable.not_not]
  exact ⟨⟨h1, h2⟩, fun a => h3 a.1 a.2⟩
theorem nI_tn {c : Nat} (h : c < 100000) : (nI c).toInt.toNat = c := by rw [nI_toInt (by omega)]; rfl
theorem kTri_good (hp : KPl σ) (h8 : kA σ 61 0 ≤ 8) (hr : kA σ 25 q < 100000) {h : Nat} (hh20 : h ≤ 20) : ∀ d p left free sum (z : KZ) w, d + p = kA σ 25 q → tIn F σ q (nI h) w p left free sum z.1 → Gd F σ q z → Gd F σ q (kTri F σ (nI h) (kBT F σ q (nI h)) (kBK F σ q (nI h)) d p left free sum z) := by
  intro d
  induction d with
  | zero =>
    intro p left free sum z w hd ht hg
    unfold kTri
    split
    · exact hg
    · rw [Nat.zero_add] at hd
      subst hd
      obtain ⟨h1, h2, h3, ⟨fr, h4, h5⟩, h6⟩ := ht
      have c1 := h2.cnt
      rw [← kFull_n hp] at c1
      have c2 := kCnt_le w (kA σ 25 q)
      have c3 := kCnt_le (kO σ 1 q) (kA σ 25 q)
      have c4 : kFull σ q ≤ kA σ 25 q := c3
      refine Or.inr ⟨h, w, hh20, rfl, h2, by omega, fun j hj => ?_, h6⟩
      show kCpy z.1 z.2.1 (kA σ 25 q) j = _
      unfold kCpy
      rw [if_pos hj]
      exact h1 j hj
  | succ d ih =>
    intro p left free sum z w hd ht hg
    unfold kTri
    have hrow : ∀ j, j < p → (if free ≤ 0 then z else kTri F σ (nI h) (kBT F σ q (nI h)) (kBK F σ q (nI h)) d (p + 1) left (free - 1) sum (kZr z p (-1))).1 j = z.1 j := by
      intro j hj
      split
      · rfl
      · rw [kTri_row _ _ _ _ _ _ _ (by omega)]
        show upd z.1 p (-1) j = _
        unfold upd
        rw [if_neg (by omega)]
    have hg0 : Gd F σ q (if free ≤ 0 then z else kTri F σ (nI h) (kBT F σ q (nI h)) (kBK F σ q (nI h)) d (p + 1) left (free - 1) sum (kZr z p (-1))) := by
      split
      · exact hg
      · next hf =>
        exact ih (p + 1) left (free - 1) sum (kZr z p (-1)) (wPut w p none) (by omega) ((ht.eq (fun j hj => wPut_ne w p none hj) (fun _ _ => rfl)).none (wPut_p w p none) hf hr) hg
    generalize (if free ≤ 0 then z else kTri F σ (nI h) (kBT F σ q (nI h)) (kBK F σ q (nI h)) d (p + 1) left (free - 1) sum (kZr z p (-1))) = z0 at hrow hg0
    have hall : ∀ c, c ≤ kA σ 61 0 → Gd F σ q (kTl F σ (nI h) (kBT F σ q (nI h)) (kBK F σ q (nI h)) (fun l s y => kTri F σ (nI h) (kBT F σ q (nI h)) (kBK F σ q (nI h)) d (p + 1) l free s y) p left sum c z0) := by
      intro c
      induction c with
      | zero => intro _; exact hg0
      | succ c ihc =>
        intro hc
        have hy := ihc (by omega)
        have hyr : ∀ j, j < p → (kTl F σ (nI h) (kBT F σ q (nI h)) (kBK F σ q (nI h)) (fun l s y => kTri F σ (nI h) (kBT F σ q (nI h)) (kBK F σ q (nI h)) d (p + 1) l free s y) p left sum c z0).1 j = z.1 j := fun j hj => by
          rw [kTl_row (fun l s y j hj => kTri_row _ _ _ _ _ _ _ (by omega)) left sum _ _ j hj]
          exact hrow j hj
        unfold kTl
        generalize kTl F σ (nI h) (kBT F σ q (nI h)) (kBK F σ q (nI h)) (fun l s y => kTri F σ (nI h) (kBT F σ q (nI h)) (kBK F σ q (nI h)) d (p + 1) l free s y) p left sum c z0 = y at hy hyr
        split
        · exact hy
        · next hs =>
          obtain ⟨s1, s2, s3⟩ := kSkB_f hs
          have hl := (ht.2.2.1 c (by omega)).mp s1
          have htw := ht.eq (w' := wPut w p (some c)) (fun j hj => wPut_ne w p (some c) hj) (row' := y.1) hyr
          refine ih (p + 1) _ free _ (kZr y p (nI c)) (wPut w p (some c)) (by omega) (htw.some (wPut_p w p (some c)) (fun j hj c2 hc2 => ?_) (by omega)) hy
          by_cases e : j = p
          · subst e
            rw [wPut_p] at hc2
            cases hc2
            refine ⟨hl.1, s2, fun i hi w2 => hl.2 i hi ((wPut_ne w j (some c) hi).trans w2), fun d2 hj0 hd2 => ?_⟩
            have hy1 := htw.1 (j - 1) (by omega)
            rw [hd2] at hy1
            have hd2n := (htw.2.1 (j - 1) (by omega) d2 hd2).1.1
            have s4 := s3 hj0 (by rw [hy1]; exact fun e => by have := (oI_neg (o := some d2) (fun c e => by cases e; omega)).mp e; cases this)
            rw [hy1, show (oI (some d2)).toInt.toNat = d2 from nI_tn (by omega)] at s4
            exact s4
          · exact htw.2.1 j (by omega) c2 hc2
    exact hall _ (Nat.le_refl _)
/-! the most never falls -/
theorem kTl_mono {t k : Nat → Nat → Int32} {rec : Int32 → Int32 → KZ → KZ} {p : Nat} {left sum : Int32} (hrec : ∀ l s y, y.2.2.2 ≤ (rec l s y).2.2.2) (z : KZ) (c : Nat) : ∀ m, (kTl F σ hh t k rec p left sum c z).2.2.2 ≤ (kTl F σ hh t k rec p left sum (c + m) z).2.2.2
  | 0 => Int32.le_refl _
  | m + 1 => by
    refine Int32.le_trans (kTl_mono hrec z c m) ?_
    show _ ≤ (kTl F σ hh t k rec p left sum (c + m + 1) z).2.2.2
    rw [kTl]
    split
    · exact Int32.le_refl _
    · exact hrec _ _ (kZr (kTl F σ hh t k rec p left sum (c + m) z) p (nI (c + m)))
theorem kTri_mono {t k : Nat → Nat → Int32} : ∀ d p left free sum (z : KZ), z.2.2.2 ≤ (kTri F σ hh t k d p left free sum z).2.2.2 := by
  intro d
  induction d with
  | zero =>
    intro p left free sum z
    unfold kTri
    split
    · exact Int32.le_refl _
    · next e => exact Int32.le_of_lt (Int32.not_le.mp e)
  | succ d ih =>
    intro p left free sum z
    unfold kTri
    refine Int32.le_trans ?_ ((Nat.zero_add (kA σ 61 0)) ▸ kTl_mono (fun l s y => ih _ _ _ _ _) (if free ≤ 0 then z else kTri F σ hh t k d (p + 1) left (free - 1) sum (kZr z p (-1))) 0 (kA σ 61 0))
    show _ ≤ (if free ≤ 0 then z else kTri F σ hh t k d (p + 1) left (free - 1) sum (kZr z p (-1))).2.2.2
    split
    · exact Int32.le_refl _
    · exact ih _ _ _ _ (kZr z p (-1))
theorem kTri_max (h8 : kA σ 61 0 ≤ 8) (hr : kA σ 25 q < 100000) {w : Nat → Option Nat} (hw : wOk F σ q hh w (kA σ 25 q)) (hcn : kCnt w (kA σ 25 q) = kFull σ q) : ∀ d p left free sum (z : KZ), d + p = kA σ 25 q → tIn F σ q hh w p left free sum z.1 → wSum (kBT F σ q hh) w (kA σ 25 q) ≤ (kTri F σ hh (kBT F σ q hh) (kBK F σ q hh) d p left free sum z).2.2.2 := by
  intro d
  induction d with
  | zero =>
    intro p left free sum z hd ht
    rw [Nat.zero_add] at hd
    subst hd
    obtain ⟨-, -, -, -, h6⟩ := ht
    unfold kTri
    split
    · next e => rw [← h6]; exact e
    · rw [← h6]; exact Int32.le_refl _
  | succ d ih =>
    intro p left free sum z hd ht
    unfold kTri
    cases e : w p with
    | none =>
      have hf : ¬ free ≤ 0 := by
        obtain ⟨-, -, -, ⟨fr, h4, h5⟩, -⟩ := ht
        have g := kCnt_gap (w := w) (p := p + 1) d
        rw [kCnt_n e, show p + 1 + d = kA σ 25 q by omega, hcn] at g
        have := kCnt_le w p
        rw [h4]
        intro w2
        have := (nI_leI (a := fr) (b := 0) (by omega) (by decide)).mp w2
        omega
      refine Int32.le_trans ?_ ((Nat.zero_add (kA σ 61 0)) ▸ kTl_mono (fun l s y => kTri_mono _ _ _ _ _ _) (if free ≤ 0 then z else kTri F σ hh (kBT F σ q hh) (kBK F σ q hh) d (p + 1) left (free - 1) sum (kZr z p (-1))) 0 (kA σ 61 0))
      show _ ≤ (if free ≤ 0 then z else kTri F σ hh (kBT F σ q hh) (kBK F σ q hh) d (p + 1) left (free - 1) sum (kZr z p (-1))).2.2.2
      rw [if_neg hf]
      exact ih (p + 1) left (free - 1) sum (kZr z p (-1)) (by omega) (ht.none e hf hr)
    | some c =>
      have hpr : p < kA σ 25 q := by omega
      obtain ⟨a1, a2, a3, a4⟩ := hw p hpr c e
      have hrow : ∀ j, j < p → (if free ≤ 0 then z else kTri F σ hh (kBT F σ q hh) (kBK F σ q hh) d (p + 1) left (free - 1) sum (kZr z p (-1))).1 j = z.1 j := by
        intro j hj
        split
        · rfl
        · rw [kTri_row _ _ _ _ _ _ _ (by omega)]
          show upd z.1 p (-1) j = _
          unfold upd
          rw [if_neg (by omega)]
      generalize (if free ≤ 0 then z else kTri F σ hh (kBT F σ q hh) (kBK F σ q hh) d (p + 1) left (free - 1) sum (kZr z p (-1))) = z0 at hrow
      obtain ⟨m, hm⟩ : ∃ m, kA σ 61 0 = c + 1 + m := ⟨kA σ 61 0 - (c + 1), by omega⟩
      rw [hm]
      refine Int32.le_trans ?_ (kTl_mono (fun l s y => kTri_mono _ _ _ _ _ _) z0 (c + 1) m)
      have hyr : ∀ j, j < p → (kTl F σ hh (kBT F σ q hh) (kBK F σ q hh) (fun l s y => kTri F σ hh (kBT F σ q hh) (kBK F σ q hh) d (p + 1) l free s y) p left sum c z0).1 j = z.1 j := fun j hj => by
        rw [kTl_row (fun l s y j hj => kTri_row _ _ _ _ _ _ _ (by omega)) left sum _ _ j hj]
        exact hrow j hj
      rw [kTl]
      generalize kTl F σ hh (kBT F σ q hh) (kBK F σ q hh) (fun l s y => kTri F σ hh (kBT F σ q hh) (kBK F σ q hh) d (p + 1) l free s y) p left sum c z0 = y at hyr
      have hty := ht.eq (w' := w) (fun _ _ => rfl) (row' := y.1) hyr
      rw [if_neg (kSkB_t ((ht.2.2.1 c (by omega)).mpr ⟨a1, a3⟩) a2 (fun hp0 hne => by
        have hy1 := hty.1 (p - 1) (by omega)
        cases e2 : w (p - 1) with
        | none => rw [e2] at hy1; exact absurd hy1 hne
        | some d2 =>
          rw [e2] at hy1
          have hd2 := (hw (p - 1) (by omega) d2 e2).1.1
          rw [hy1, show (oI (some d2)).toInt.toNat = d2 from nI_tn (by omega)]
          exact a4 d2 hp0 e2))]
      exact ih (p + 1) _ free _ (kZr y p (nI c)) (by omega) (hty.some e (fun j hj => hw j (by omega)) (by omega))
theorem kAl_bt (σ : KS) (q : Nat) : ∀ n, n ≤ 8 → ∀ i, i < 32 → (bt (kAl σ q n) i = true ↔ i < n ∧ kO σ 0 i 0 = some q)
  | 0, _, i, hi => by
    show bt 0 i = true ↔ _
    rw [b_0]
    exact ⟨fun e => (by cases e), fun e => absurd e.1 (Nat.not_lt_zero i)⟩
  | n + 1, hn, i, hi => by
    have ih := kAl_bt σ q n (by omega) i hi
    unfold kAl
    by_cases e : kO σ 0 n 0 = some q
    · rw [if_pos e, b_or, b_one (by omega) hi, Bool.or_eq_true, ih]
      by_cases w : i = n
      · subst w
        exact ⟨fun _ => ⟨by omega, e⟩, fun _ => Or.inr (by simp)⟩
      · simp only [w, decide_false, Bool.false_eq_true, or_false]
        exact ⟨fun a => ⟨by omega, a.2⟩, fun a => ⟨by omega, a.2⟩⟩
    · rw [if_neg e, ih]
      refine ⟨fun a => ⟨by omega, a.2⟩, fun a => ⟨?_, a.2⟩⟩
      by_cases w : i = n
      · subst w; exact absurd a.2 e
      · omega
theorem tIn_0 (w : Nat → Option Nat) (h8 : kA σ 61 0 ≤ 8) (row : Nat → Int32) : tIn F σ q hh w 0 (kAl σ q (kA σ 61 0)) (nI (kA σ 25 q) - nI (kFull σ q)) 0 row := by
  have hf : kFull σ q ≤ kA σ 25 q := kCnt_le (kO σ 1 q) (kA σ 25 q)
  refine ⟨fun j hj => absurd hj (Nat.not_lt_zero j), fun j hj => absurd hj (Nat.not_lt_zero j), fun i hi => ?_, ⟨kA σ 25 q - kFull σ q, ?_, by omega⟩, rfl⟩
  · rw [kAl_bt σ q _ h8 i hi]
    exact ⟨fun a => ⟨a, fun j hj => absurd hj (Nat.not_lt_zero j)⟩, fun a => a.1⟩
  · rw [← iI_nat, ← iI_nat, ← iI_nat, iI_sub]
    congr 1
    omega
theorem kZh_good (hp : KPl σ) (h8 : kA σ 61 0 ≤ 8) (hr : kA σ 25 q < 100000) : ∀ n, n ≤ 21 → Gd F σ q (kZh F σ q n)
  | 0, _ => Or.inl ⟨rfl, rfl⟩
  | n + 1, hn => kTri_good hp h8 hr (by omega) _ _ _ _ _ _ (fun _ => none) (by omega) (tIn_0 _ h8 _) (kZh_good hp h8 hr n (by omega))
theorem kZh_max (h8 : kA σ 61 0 ≤ 8) (hr : kA σ 25 q < 100000) {h : Nat} {w : Nat → Option Nat} (hw : wOk F σ q (nI h) w (kA σ 25 q)) (hcn : kCnt w (kA σ 25 q) = kFull σ q) : ∀ m, wSum (kBT F σ q (nI h)) w (kA σ 25 q) ≤ (kZh F σ q (h + 1 + m)).2.2.2
  | 0 => kTri_max h8 hr hw hcn _ _ _ _ _ _ (by omega) (tIn_0 _ h8 _)
  | m + 1 => Int32.le_trans (kZh_max h8 hr hw hcn m) (kTri_mono _ _ _ _ _ _)
theorem kSaf_w (hp : KPl σ) (h : kSaf F σ q hh) : wOk F σ q hh (kO σ 1 q) (kA σ 25 q) := fun j hj c hc => by
  obtain ⟨a, b⟩ := h j hj c hc
  obtain ⟨c1, c2, c3⟩ := (hp.1 q j c).mp hc
  refine ⟨⟨c1, c2⟩, a, fun i hi e => ?_, fun d hj0 hd => ?_⟩
  · have := ((hp.1 q i c).mp e).2.2
    omega
  · have := (h (j - 1) (by omega) d hd).2 c ((if_pos (by omega)).trans (by rw [show j - 1 + 1 = j by omega]; exact hc))
    rw [show j - 1 + 1 = j by omega] at this
    exact this
end BST
