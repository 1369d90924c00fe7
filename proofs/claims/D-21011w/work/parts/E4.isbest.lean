/-! isBest -/
/-- what best() answers -/
def kBA (F : Nat → Option (aEnv → Int64)) (σ : KS) (q w : Nat) : Int32 := if kFull σ q = 0 then -1 else if w ≤ 1 + kA σ 25 q then kBe F σ q w else -1
theorem m_best {l : Launch} {s0 : State} {D : va_G} (h0 : x0 l s0 D) (σ : KS) (gF : xG) (f : aEnv) {F : Nat → Option (aEnv → Int64)} (hF : kF gF σ F) (hw : KW σ) (hNB : kNB gF) (hNG : kNG gF) (kq : Nat) (hq : kq < kA σ 62 0) (w : Nat) (hw2 : w < 1000) : xMet l s0 D yX2_best cX2_best 5 (some .int) (xr 48 402 2476 2050) [.ref (kA σ 0 0), .int (nI kq), .int (nI w)] (kmix (kT σ f) gF) (fun r g1 => ∃ f1, r = some (.int (kBA F σ kq w)) ∧ g1 = kmix (kT σ f1) gF) := by
  unfold kBA
  by_cases hfl : kFull σ kq = 0
  · rw [if_pos hfl]
    refine (m_best_0 h0 σ gF f hw kq hq hfl (nI w)).post ?_
    rintro r g1 ⟨e1, e2⟩
    exact ⟨f, e1, e2⟩
  · rw [if_neg hfl]
    by_cases hwr : w ≤ 1 + kA σ 25 kq
    · rw [if_pos hwr]
      exact m_best_s h0 σ gF f hF hw hNB hNG kq hq hfl w hwr
    · rw [if_neg hwr]
      refine (m_best_out h0 σ gF f hw kq hq hfl w (by omega) (by omega)).post ?_
      rintro r g1 ⟨e1, e2⟩
      exact ⟨f, e1, e2⟩
theorem kBT_w {F : Nat → Option (aEnv → Int64)} {σ : KS} {q c j : Nat} {hh : Int32} (h1 : c < kA σ 61 0) (h2 : kO σ 0 c 0 = some q) (h3 : j < kA σ 25 q) : kBT F σ q hh c j = kTemp F σ c hh (nI j) ∧ kBK F σ q hh c j = kCrack F σ c hh (nI j) := ⟨if_pos ⟨Or.inl h1, h2, h3⟩, if_pos ⟨Or.inl h1, h2, h3⟩⟩
def wv (t : Nat → Nat → Int32) (w : Nat → Option Nat) (j : Nat) : Nat := match w j with
  | none => 0
  | some c => (t c j).toInt.toNat
theorem wSum_v {t : Nat → Nat → Int32} {w : Nat → Option Nat} : ∀ {p : Nat}, (∀ j, j < p → ∀ c, w j = some c → ∃ z : Nat, z ≤ 99 ∧ t c j = nI z) → wSum t w p = nI (sm (wv t w) p) ∧ sm (wv t w) p ≤ 99 * p
  | 0, _ => ⟨rfl, Nat.le_refl _⟩
  | p + 1, h => by
    obtain ⟨i1, i2⟩ := wSum_v (t := t) (w := w) (p := p) (fun j hj => h j (by omega))
    show _ = nI (sm (wv t w) p + wv t w p) ∧ sm (wv t w) p + wv t w p ≤ _
    cases e : w p with
    | none =>
      have e2 : wv t w p = 0 := by unfold wv; rw [e]
      rw [wSum_n e, e2]
      exact ⟨i1, by omega⟩
    | some c =>
      obtain ⟨z, z1, z2⟩ := h p (by omega) c e
      have e2 : wv t w p = z := by
        unfold wv; rw [e]; dsimp only
        rw [z2, nI_tn (by omega)]
      rw [wSum_s e, e2, i1, z2, nI_add]
      exact ⟨rfl, by omega⟩
/-- what the children of a kiln come to as they stand -/
def asN (F : Nat → Option (aEnv → Int64)) (σ : KS) (q : Nat) (sf : Int32) (n : Nat) : Nat := sm (fun d => if 0 ≤ sf ∧ kO σ 0 d 0 = some q then (kTemp F σ d sf (iI (kI σ 33 d))).toInt.toNat else 0) n
theorem asN_w {F : Nat → Option (aEnv → Int64)} {σ : KS} {q : Nat} {sf : Int32} (hp : KPl σ) (h0 : 0 ≤ sf) : asN F σ q sf (kA σ 61 0) = sm (wv (kBT F σ q sf) (kO σ 1 q)) (kA σ 25 q) := by
  have h1 : sm (wv (kBT F σ q sf) (kO σ 1 q)) (kA σ 25 q) = sm (fun p => sm (fun c => if kO σ 1 q p = some c then (kTemp F σ c sf (nI p)).toInt.toNat else 0) (kA σ 61 0)) (kA σ 25 q) := sm_ext fun p hpr => by
    unfold wv
    cases e : kO σ 1 q p with
    | none => rw [sm_ext (g := fun _ => 0) (fun c _ => if_neg (fun w => by cases w)), sm_z]
    | some d =>
      have hd := (hp.1 q p d).mp e
      rw [sm_ext (g := fun c => if c = d then (kTemp F σ d sf (nI p)).toInt.toNat else 0) (fun c _ => by
        by_cases w : c = d
        · rw [if_pos w, if_pos (by rw [w]), w]
        · rw [if_neg w, if_neg (fun v => w (by cases v; rfl))]), sm_pt, if_pos hd.1]
      dsimp only
      rw [(kBT_w hd.1 hd.2.1 hpr).1]
  rw [h1, sm_swap]
  refine sm_ext fun c hc => ?_
  by_cases hk : kO σ 0 c 0 = some q
  · obtain ⟨-, p, h2, h3⟩ := hp.2.1 c q hc hk
    rw [if_pos ⟨h0, hk⟩, sm_ext (g := fun j => if j = p then (kTemp F σ c sf (nI p)).toInt.toNat else 0) (fun j _ => by
      by_cases w : j = p
      · rw [if_pos w, w, if_pos ((hp.1 q p c).mpr ⟨hc, hk, h3⟩)]
      · rw [if_neg w, if_neg (fun v => w (by have := ((hp.1 q j c).mp v).2.2; omega))]), sm_pt, if_pos h2, h3, iI_nat]
  · rw [if_neg (fun w => hk w.2), sm_ext (g := fun _ => 0) (fun j _ => if_neg (fun v => hk ((hp.1 q j c).mp v).2.1)), sm_z]
theorem wOk.val {σ : KS} {α : aA} (hok : aOk α) (hl : LT σ α) (hr6 : ∀ q, q < aI α 1 → kA σ 25 q ≤ 6) {q : Nat} (hq : q < aI α 1) {h : Nat} (hh : h ≤ 20) {w : Nat → Option Nat} {p : Nat} (hp : p ≤ kA σ 25 q) (hw : wOk (aFo α) σ q (nI h) w p) : wSum (kBT (aFo α) σ q (nI h)) w p = nI (sm (wv (kBT (aFo α) σ q (nI h)) w) p) ∧ sm (wv (kBT (aFo α) σ q (nI h)) w) p ≤ 99 * p := by
  refine wSum_v (fun j hj c hc => ?_)
  obtain ⟨⟨a1, a2⟩, -⟩ := hw j hj c hc
  have := hr6 q hq
  obtain ⟨z, z1, z2, z3⟩ := aTempR hok hl (show c < aI α 0 by rw [← hl.1]; exact a1) hh (show j ≤ 6 by omega)
  refine ⟨z.toNat, by omega, ?_⟩
  rw [(kBT_w a1 a2 (by omega)).1, z1, ← iI_nat]
  congr 1
  omega
theorem bestLaw {σ : KS} {α : aA} (hok : aOk α) (hl : LT σ α) (hw : KW σ) (hpP : KPl σ) {q : Nat} (hq : q < aI α 1) {sf : Int32} (hS : kSfA (aFo α) σ q sf) : (kBA (aFo α) σ q 0 = -1 ∧ kBA (aFo α) σ q 1 = -1 ∧ kBA (aFo α) σ q 2 = -1 ∧ sf = -1) ∨ ∃ h w, h ≤ 20 ∧ kBA (aFo α) σ q 0 = nI h ∧ wOk (aFo α) σ q (nI h) w (kA σ 25 q) ∧ kCnt w (kA σ 25 q) = kFull σ q ∧ (∀ j, j < kA σ 25 q → kBA (aFo α) σ q (2 + j) = oI (w j)) ∧ kBA (aFo α) σ q 1 = wSum (kBT (aFo α) σ q (nI h)) w (kA σ 25 q) ∧ kBA (aFo α) σ q (2 + kA σ 25 q) = -1 ∧ nI (asN (aFo α) σ q sf (aI α 0)) ≤ wSum (kBT (aFo α) σ q (nI h)) w (kA σ 25 q) := by
  have hq2 : q < kA σ 62 0 := by rw [hl.2.1]; exact hq
  have hr6 : ∀ q, q < aI α 1 → kA σ 25 q ≤ 6 := fun q hq => hw.2.2.2.1 q (by rw [hl.2.1]; exact hq)
  have hr := hr6 q hq
  rcases hS with ⟨a, b⟩ | ⟨hfl, hS⟩
  · left
    unfold kBA
    rw [if_pos a, if_pos a, if_pos a]
    exact ⟨rfl, rfl, rfl, b⟩
  have hG := kZh_good (F := aFo α) hpP hw.1 (show kA σ 25 q < 100000 by omega) 21 (Nat.le_refl _)
  have hmax : ∀ h, h ≤ 20 → kSaf (aFo α) σ q (nI h) → nI (sm (wv (kBT (aFo α) σ q (nI h)) (kO σ 1 q)) (kA σ 25 q)) ≤ (kZh (aFo α) σ q 21).2.2.2 := fun h hh hs => by
    have h1 := kSaf_w hpP hs
    have h2 := kZh_max (F := aFo α) hw.1 (show kA σ 25 q < 100000 by omega) h1 rfl (20 - h)
    rw [show h + 1 + (20 - h) = 21 by omega, (h1.val hok hl hr6 hq hh (Nat.le_refl _)).1] at h2
    exact h2
  unfold kBA
  simp only [if_neg hfl]
  rcases hG with ⟨g1, g2⟩ | ⟨h, w, g0, g1, g2, g3, g4, g5⟩
  · left
    have e0 : ∀ i, (if i ≤ 1 + kA σ 25 q then kBe (aFo α) σ q i else -1) = -1 := fun i => by
      split
      · unfold kBe; rw [if_pos g1]
      · rfl
    refine ⟨e0 0, e0 1, e0 2, ?_⟩
    rcases hS with ⟨a, -⟩ | ⟨h, a, -, c, -⟩
    · exact a
    · have h1 := hmax h (by omega) c
      have h2 := ((kSaf_w hpP c).val hok hl hr6 hq (by omega) (Nat.le_refl _)).2
      rw [g2, ← iI_nat] at h1
      have := (iI_le (b := -1) (iB_nat (by omega)) ⟨by decide, by decide⟩).mp h1
      omega
  · right
    have hne : ¬ (kZh (aFo α) σ q 21).2.2.1 = -1 := fun e => by
      rw [g1, ← iI_nat] at e
      have := (iI_eq (b := -1) (iB_nat (by omega)) ⟨by decide, by decide⟩).mp e
      omega
    refine ⟨h, w, g0, ?_, g2, g3, fun j hj => ?_, ?_, if_neg (by omega), ?_⟩
    · rw [if_pos (Nat.zero_le _)]; unfold kBe; rw [if_neg hne, if_pos rfl]; exact g1
    · rw [if_pos (by omega)]; unfold kBe; rw [if_neg hne, if_neg (by omega), if_neg (by omega), show 2 + j - 2 = j by omega]; exact g4 j hj
    · rw [if_pos (by omega)]; unfold kBe; rw [if_neg hne, if_neg (by omega), if_pos rfl]; exact g5
    · rw [← g5]
      rcases hS with ⟨a, -⟩ | ⟨h', a, b, c, -⟩
      · have e : asN (aFo α) σ q sf (aI α 0) = 0 := by
          unfold asN
          rw [sm_ext (g := fun _ => 0) (fun d _ => if_neg (fun w => by rw [a] at w; exact absurd w.1 (by decide))), sm_z]
        have h2 := g2.val hok hl hr6 hq g0 (Nat.le_refl _)
        rw [e, g5, h2.1]
        exact nI_le (Nat.zero_le _) (by omega)
      · rw [b, ← hl.1, asN_w hpP (nI_le (a := 0) (Nat.zero_le _) (by omega))]
        exact hmax h' (by omega) c
theorem jb_ : ∀ x : Fin 256, ∀ c : Fin 8, bt (nI x.val) c.val = false → nI x.val ||| ((1 : Int32) <<< (nI c.val &&& 31)) = nI (x.val ||| (1 <<< c.val)) ∧ x.val ||| (1 <<< c.val) < 256 ∧ jbits (nI (x.val ||| (1 <<< c.val))) = jbits (nI x.val) + 1 := by decide +kernel
/-- how far the check of best() is -/
def bI (t : Nat → Nat → Int32) (w : Nat → Option Nat) (p : Nat) (set sum last : Int32) : Prop := sum = wSum t w p ∧ last = (if p = 0 then -1 else oI (w (p - 1))) ∧ (∃ x, x < 256 ∧ set = nI x ∧ jbits set = nI (kCnt w p)) ∧ ∀ i, i < 8 → (bt set i = true ↔ ∃ j, j < p ∧ w j = some i)
theorem bI_0 (t : Nat → Nat → Int32) (w : Nat → Option Nat) : bI t w 0 0 0 (-1) := ⟨rfl, rfl, ⟨0, by decide, rfl, (show jbits 0 = nI 0 by decide)⟩, fun i _ => by
  rw [b_0]
  exact ⟨fun e => (by cases e), fun ⟨j, hj, _⟩ => absurd hj (Nat.not_lt_zero j)⟩⟩
theorem bI.n {t : Nat → Nat → Int32} {w : Nat → Option Nat} {p : Nat} {set sum last : Int32} (h : bI t w p set sum last) (hp : w p = none) : bI t w (p + 1) set sum (oI (w p)) := by
  obtain ⟨h1, -, h3, h4⟩ := h
  refine ⟨by rw [wSum_n hp]; exact h1, (if_neg (by omega)).symm, by rw [kCnt_n hp]; exact h3, fun i hi => ?_⟩
  rw [h4 i hi]
  constructor
  · rintro ⟨j, a, b⟩; exact ⟨j, by omega, b⟩
  · rintro ⟨j, a, b⟩
    refine ⟨j, ?_, b⟩
    by_cases e : j = p
    · subst e; rw [hp] at b; cases b
    · omega
theorem bI.s {t : Nat → Nat → Int32} {w : Nat → Option Nat} {p c : Nat} {set sum last x : Int32} (h : bI t w p set sum last) (hp : w p = some c) (hc : c < 8) (hd : ∀ i, i < p → ¬ w i = some c) (hx : x = t c p) : bI t w (p + 1) (set ||| ((1 : Int32) <<< (nI c &&& 31))) (sum + x) (nI c) := by
  obtain ⟨h1, -, ⟨y, y1, y2, y3⟩, h4⟩ := h
  have hb : bt set c = false := by
    cases e : bt set c with
    | false => rfl
    | true => obtain ⟨j, a, b⟩ := (h4 c hc).mp e; exact absurd b (hd j a)
  have hj := jb_ ⟨y, y1⟩ ⟨c, hc⟩ (by rw [← y2]; exact hb)
  dsimp only at hj
  refine ⟨by rw [wSum_s hp, h1, hx], ?_, ⟨_, hj.2.1, by rw [y2]; exact hj.1, ?_⟩, fun i hi => ?_⟩
  · rw [if_neg (by omega), show p + 1 - 1 = p from rfl, hp]; rfl
  · rw [y2, hj.1, hj.2.2, ← y2, y3, kCnt_s hp, nI_1]
  · rw [b_or, b_one (by omega) (by omega), Bool.or_eq_true, h4 i hi]
    constructor
    · rintro (⟨j, a, b⟩ | e)
      · exact ⟨j, by omega, b⟩
      · have : i = c := by simpa using e
        subst this; exact ⟨p, by omega, hp⟩
    · rintro ⟨j, a, b⟩
      by_cases e : j = p
      · subst e; rw [hp] at b; cases b; exact Or.inr (by simp)
      · exact Or.inl ⟨j, by omega, b⟩
theorem asN_s {F : Nat → Option (aEnv → Int64)} {σ : KS} {q : Nat} {sf : Int32} {c : Nat} {x : Int32} (h : (0 ≤ sf ∧ kO σ 0 c 0 = some q ∧ ∃ z : Nat, z ≤ 99 ∧ x = nI z ∧ x = kTemp F σ c sf (iI (kI σ 33 c))) ∨ (¬ (0 ≤ sf ∧ kO σ 0 c 0 = some q) ∧ x = 0)) : nI (asN F σ q sf c) + x = nI (asN F σ q sf (c + 1)) := by
  show _ = nI (asN F σ q sf c + (if 0 ≤ sf ∧ kO σ 0 c 0 = some q then (kTemp F σ c sf (iI (kI σ 33 c))).toInt.toNat else 0))
  rcases h with ⟨a, b, z, z1, z2, z3⟩ | ⟨a, b⟩
  · rw [if_pos ⟨a, b⟩, ← z3, z2, nI_tn (by omega), nI_add]
  · rw [if_neg a, b, Nat.add_zero, Int32.add_zero]

set_option maxHeartbeats 4000000 in
set_option maxRecDepth 100000 in
theorem m_isBest_n {l : Launch} {s0 : State} {D : va_G} (h0 : x0 l s0 D) (σ : KS) (gF : xG) (f : aEnv) {ad aa d0 : Nat} {α : aA} {I : Nat → Int32} {V : Nat → Nat → Int32} {M : Nat → Nat → Nat → Int32} {R : Nat} (hD : DW gF ad I V M) (hA : AH gF aa α) (hok : aOk α) (hl : LT σ α) (hG : KSt gF (aFo α) d0 σ) (hFo : KFo s0 gF d0) (hAI : AI (aFo α) σ V M R (aI α 1) (aI α 0)) {q : Nat} (hq : q < aI α 1) (hro4 : aRo α q ≤ 4) {sf : Int32} (b0 : kBA (aFo α) σ q 0 = -1) (b1 : kBA (aFo α) σ q 1 = -1) (b2 : kBA (aFo α) σ q 2 = -1) (hsf : sf = -1) : xMet l s0 D yX0_isBest cX0_isBest 11 (some .boolean) (xr 50 2900 17500 2200) [.ref (kA σ 0 0), .ref aa, .ref ad, .int (nI q), .int sf] (kmix (kT σ f) gF) (fun r g1 => ∃ f1, r = some (.int 1) ∧ g1 = kmix (kT σ f1) gF) := by
  obtain ⟨ra, rr, hd0', hd3', hd6', -, -, -, -, -, -⟩ := id hD
  obtain ⟨ca, ga, rm, hat', hac', hag', har'⟩ := id hA
  obtain ⟨hF, hv, hpP, hNb, -, -, -, h63, -⟩ := id hG
  have hw := hv.1
  have hb0 := hok.1
  have hb1 := hok.2.1
  have hd0 : ∀ f, kmix (kT σ f) gF (120, 0) = _ := fun f => (kmix_F _ _ _ rfl).trans hd0'
  have hd3 : ∀ f k, 5 ≤ k → k < 10 → kmix (kT σ f) gF (116 + k, 0) = some (ra k, xAi .int 3 (V k)) := fun f k a b => (kmix_F _ _ _ (bf40 (by dsimp only; omega))).trans (hd3' k a b)
  have hd6 : ∀ f k, 10 ≤ k → k < 15 → kmix (kT σ f) gF (116 + k, 0) = some (ra k, xAi .int 6 (V k)) := fun f k a b => (kmix_F _ _ _ (bf40 (by dsimp only; omega))).trans (hd6' k a b)
  have hat : ∀ f, kmix (kT σ f) gF (101, 0) = _ := fun f => (kmix_F _ _ _ rfl).trans hat'
  have har : ∀ f, kmix (kT σ f) gF (104, 0) = _ := fun f => (kmix_F _ _ _ rfl).trans har'
  have hK : ∀ c, c < aI α 0 → V 10 c = kKil σ c ∧ V 11 c = iI (kI σ 33 c) := fun c hc => ⟨(hAI.2.2 c hc).1.1.1, (hAI.2.2 c hc).1.1.2.1⟩
  have hq2 : q < kA σ 62 0 := by rw [hl.2.1]; exact hq
  have hNG : kNG gF := ⟨hFo.2 (61, 0) (by decide) (by decide), hFo.2 (62, 0) (by decide) (by decide), hFo.2 (63, 0) (by decide) (by decide)⟩
  have hr6 : kA σ 25 q ≤ 4 := by rw [hl.2.2.2 q hq]; exact hro4
  have h8 : kA σ 61 0 ≤ 8 := hw.1
  refine xMet.of h0 (by decide +kernel) rfl ?_
  intro zp ze zs zm za zb zf zc hC hr hnm
  refine x_aloadr_n hC dX0_isBest_0 (q := 1) rfl rfl ?_
  refine x_iload_n hC dX0_isBest_1 (q := 2) rfl rfl ?_
  refine x_iconst hC dX0_isBest_2 (q := 3) rfl (v := (0)) (by decide) ?_
  refine x_callV hC xv_X0_141 dX0_isBest_3 (q := 6) rfl rfl (m_best h0 σ gF f hF hw hFo.NB hNG q hq2 (0) (by omega)) (nn := (0, 0)) rfl rfl rfl (Nat.le_of_ble_eq_true rfl) ⟨(by (try dsimp only); omega), (by (try dsimp only); omega)⟩ ⟨(by (try dsimp only); omega), (by (try dsimp only); omega)⟩ (fun v g1 hp => ?_)
  obtain ⟨f1, rfl, hg1⟩ := hp
  subst hg1
  rw [b0]
  refine x_istore hC dX0_isBest_6 (q := 8) rfl rfl ?_
  refine x_iload hC dX0_isBest_8 (q := 10) rfl rfl ?_
  refine x_if_ge hC dX0_isBest_10 (q := 13) rfl (tgt := 50) rfl (fun h10 => ?_) (fun h10 => ?_)
  · exact absurd h10 (by decide)
  refine x_iload hC dX0_isBest_13 (q := 15) rfl rfl ?_
  refine x_iconst hC dX0_isBest_15 (q := 16) rfl (v := (-1)) (by decide) ?_
  refine x_icmp_ne hC dX0_isBest_16 (q := 19) rfl (tgt := 48) rfl (fun h16 => ?_) (fun h16 => ?_)
  · exact absurd rfl h16
  refine x_aloadr_n hC dX0_isBest_19 (q := 20) rfl rfl ?_
  refine x_iload_n hC dX0_isBest_20 (q := 21) rfl rfl ?_
  refine x_iconst hC dX0_isBest_21 (q := 22) rfl (v := (1)) (by decide) ?_
  refine x_callV hC xv_X0_141 dX0_isBest_22 (q := 25) rfl rfl (m_best h0 σ gF _ hF hw hFo.NB hNG q hq2 (1) (by omega)) (nn := (0, 0)) rfl rfl rfl (Nat.le_of_ble_eq_true rfl) ⟨(by (try dsimp only); omega), (by (try dsimp only); omega)⟩ ⟨(by (try dsimp only); omega), (by (try dsimp only); omega)⟩ (fun v g1 hp => ?_)
  obtain ⟨f2, rfl, hg1⟩ := hp
  subst hg1
  rw [b1]
  refine x_iconst hC dX0_isBest_25 (q := 26) rfl (v := (-1)) (by decide) ?_
  refine x_icmp_ne hC dX0_isBest_26 (q := 29) rfl (tgt := 48) rfl (fun h26 => ?_) (fun h26 => ?_)
  · exact absurd rfl h26
  refine x_aloadr_n hC dX0_isBest_29 (q := 30) rfl rfl ?_
  refine x_iload_n hC dX0_isBest_30 (q := 31) rfl rfl ?_
  refine x_iconst hC dX0_isBest_31 (q := 32) rfl (v := (2)) (by decide) ?_
  refine x_callV hC xv_X0_141 dX0_isBest_32 (q := 35) rfl rfl (m_best h0 σ gF _ hF hw hFo.NB hNG q hq2 (2) (by omega)) (nn := (0, 0)) rfl rfl rfl (Nat.le_of_ble_eq_true rfl) ⟨(by (try dsimp only); omega), (by (try dsimp only); omega)⟩ ⟨(by (try dsimp only); omega), (by (try dsimp only); omega)⟩ (fun v g1 hp => ?_)
  obtain ⟨f3, rfl, hg1⟩ := hp
  subst hg1
  rw [b2]
  refine x_iconst hC dX0_isBest_35 (q := 36) rfl (v := (-1)) (by decide) ?_
  refine x_icmp_ne hC dX0_isBest_36 (q := 39) rfl (tgt := 48) rfl (fun h36 => ?_) (fun h36 => ?_)
  · exact absurd rfl h36
  refine x_iload hC dX0_isBest_39 (q := 41) rfl rfl ?_
  refine x_if_ge hC dX0_isBest_41 (q := 44) rfl (tgt := 48) rfl (fun h41 => ?_) (fun h41 => ?_)
  · rw [hsf] at h41; exact absurd h41 (by decide)
  refine x_iconst hC dX0_isBest_44 (q := 45) rfl (v := (1)) (by decide) ?_
  refine x_goto hC dX0_isBest_45 (tgt := 49) rfl ?_
  exact x_zret hC hr rfl dX0_isBest_49 (by (try dsimp only); omega) (by (try dsimp only); omega) ⟨_, rfl, rfl⟩

set_option maxHeartbeats 4000000 in
set_option maxRecDepth 100000 in
theorem m_isBest_h {l : Launch} {s0 : State} {D : va_G} (h0 : x0 l s0 D) (σ : KS) (gF : xG) (f : aEnv) {ad aa d0 : Nat} {α : aA} {I : Nat → Int32} {V : Nat → Nat → Int32} {M : Nat → Nat → Nat → Int32} {R : Nat} (hD : DW gF ad I V M) (hA : AH gF aa α) (hok : aOk α) (hl : LT σ α) (hG : KSt gF (aFo α) d0 σ) (hFo : KFo s0 gF d0) (hAI : AI (aFo α) σ V M R (aI α 1) (aI α 0)) {q : Nat} (hq : q < aI α 1) (hro4 : aRo α q ≤ 4) {sf : Int32} (hSA : kSfA (aFo α) σ q sf) {h : Nat} {w : Nat → Option Nat} (hh20 : h ≤ 20) (b0 : kBA (aFo α) σ q 0 = nI h) (hW : wOk (aFo α) σ q (nI h) w (kA σ 25 q)) (hcnt : kCnt w (kA σ 25 q) = kFull σ q) (b3 : ∀ j, j < kA σ 25 q → kBA (aFo α) σ q (2 + j) = oI (w j)) (b1 : kBA (aFo α) σ q 1 = wSum (kBT (aFo α) σ q (nI h)) w (kA σ 25 q)) (b4 : kBA (aFo α) σ q (2 + kA σ 25 q) = -1) (hle : nI (asN (aFo α) σ q sf (aI α 0)) ≤ wSum (kBT (aFo α) σ q (nI h)) w (kA σ 25 q)) : xMet l s0 D yX0_isBest cX0_isBest 11 (some .boolean) (xr 50 2900 17500 2200) [.ref (kA σ 0 0), .ref aa, .ref ad, .int (nI q), .int sf] (kmix (kT σ f) gF) (fun r g1 => ∃ f1, r = some (.int 1) ∧ g1 = kmix (kT σ f1) gF) := by
  obtain ⟨ra, rr, hd0', hd3', hd6', -, -, -, -, -, -⟩ := id hD
  obtain ⟨ca, ga, rm, hat', hac', hag', har'⟩ := id hA
  obtain ⟨hF, hv, hpP, hNb, -, -, -, h63, -⟩ := id hG
  have hw := hv.1
  have hb0 := hok.1
  have hb1 := hok.2.1
  have hd0 : ∀ f, kmix (kT σ f) gF (120, 0) = _ := fun f => (kmix_F _ _ _ rfl).trans hd0'
  have hd3 : ∀ f k, 5 ≤ k → k < 10 → kmix (kT σ f) gF (116 + k, 0) = some (ra k, xAi .int 3 (V k)) := fun f k a b => (kmix_F _ _ _ (bf40 (by dsimp only; omega))).trans (hd3' k a b)
  have hd6 : ∀ f k, 10 ≤ k → k < 15 → kmix (kT σ f) gF (116 + k, 0) = some (ra k, xAi .int 6 (V k)) := fun f k a b => (kmix_F _ _ _ (bf40 (by dsimp only; omega))).trans (hd6' k a b)
  have hat : ∀ f, kmix (kT σ f) gF (101, 0) = _ := fun f => (kmix_F _ _ _ rfl).trans hat'
  have har : ∀ f, kmix (kT σ f) gF (104, 0) = _ := fun f => (kmix_F _ _ _ rfl).trans har'
  have hK : ∀ c, c < aI α 0 → V 10 c = kKil σ c ∧ V 11 c = iI (kI σ 33 c) := fun c hc => ⟨(hAI.2.2 c hc).1.1.1, (hAI.2.2 c hc).1.1.2.1⟩
  have hq2 : q < kA σ 62 0 := by rw [hl.2.1]; exact hq
  have hNG : kNG gF := ⟨hFo.2 (61, 0) (by decide) (by decide), hFo.2 (62, 0) (by decide) (by decide), hFo.2 (63, 0) (by decide) (by decide)⟩
  have hr6 : kA σ 25 q ≤ 4 := by rw [hl.2.2.2 q hq]; exact hro4
  have h8 : kA σ 61 0 ≤ 8 := hw.1
  refine xMet.of h0 (by decide +kernel) rfl ?_
  intro zp ze zs zm za zb zf zc hC hr hnm
  refine x_aloadr_n hC dX0_isBest_0 (q := 1) rfl rfl ?_
  refine x_iload_n hC dX0_isBest_1 (q := 2) rfl rfl ?_
  refine x_iconst hC dX0_isBest_2 (q := 3) rfl (v := (0)) (by decide) ?_
  refine x_callV hC xv_X0_141 dX0_isBest_3 (q := 6) rfl rfl (m_best h0 σ gF f hF hw hFo.NB hNG q hq2 (0) (by omega)) (nn := (0, 0)) rfl rfl rfl (Nat.le_of_ble_eq_true rfl) ⟨(by (try dsimp only); omega), (by (try dsimp only); omega)⟩ ⟨(by (try dsimp only); omega), (by (try dsimp only); omega)⟩ (fun v g1 hp => ?_)
  obtain ⟨f1, rfl, hg1⟩ := hp
  subst hg1
  rw [b0]
  refine x_istore hC dX0_isBest_6 (q := 8) rfl rfl ?_
  refine x_iload hC dX0_isBest_8 (q := 10) rfl rfl ?_
  refine x_if_ge hC dX0_isBest_10 (q := 13) rfl (tgt := 50) rfl (fun h10 => ?_) (fun h10 => ?_)
  · have hx10 := h10
    refine x_iconst hC dX0_isBest_50 (q := 51) rfl (v := (0)) (by decide) ?_
    refine x_istore hC dX0_isBest_51 (q := 53) rfl rfl ?_
    refine x_iconst hC dX0_isBest_53 (q := 54) rfl (v := (0)) (by decide) ?_
    refine x_istore hC dX0_isBest_54 (q := 56) rfl rfl ?_
    refine x_iconst hC dX0_isBest_56 (q := 57) rfl (v := (-1)) (by decide) ?_
    refine x_istore hC dX0_isBest_57 (q := 59) rfl rfl ?_
    refine x_iconst hC dX0_isBest_59 (q := 60) rfl (v := (0)) (by decide) ?_
    refine x_istore hC dX0_isBest_60 (q := 62) rfl rfl ?_
    refine x_loop (S := (fun x : Nat × aEnv × Int32 × Int32 × Int32 × Option Value => (402 * (1 + x.1), 2476 * (1 + x.1), kmix (kT σ x.2.1) gF, ([some (.ref (kA σ 0 0)), some (.ref aa), some (.ref ad), some (.int (nI q)), some (.int sf), some (.int (nI h)), some (.int x.2.2.1), some (.int x.2.2.2.1), some (.int x.2.2.2.2.1), some (.int (nI x.1)), x.2.2.2.2.2] : xL), ([] : List Value)))) (Inv := fun x => x.1 ≤ kA σ 25 q ∧ bI (kBT (aFo α) σ q (nI h)) w x.1 x.2.2.1 x.2.2.2.1 x.2.2.2.2.1) (μ := fun x => kA σ 25 q - x.1) ?_ (0, f1, 0, 0, -1, none) ⟨Nat.zero_le _, bI_0 _ w⟩
    intro x hi ih
    obtain ⟨p, f, set, sum, last, u10⟩ := x
    obtain ⟨hi, hb⟩ := hi
    dsimp only at hi hb ih ⊢
    refine x_iload hC dX0_isBest_62 (q := 64) rfl rfl ?_
    refine x_aloadr_n hC dX0_isBest_64 (q := 65) rfl rfl ?_
    refine x_get hC xf_X0_69_0 dX0_isBest_65 (q := 68) rfl (n := (101, 0)) (hat _) rfl ?_
    refine x_iload_n hC dX0_isBest_68 (q := 69) rfl rfl ?_
    refine x_iald hC dX0_isBest_69 (q := 70) rfl (n := (104, 0)) (har _) (j := q) rfl (by omega) (by decide) ?_
    rw [aF_lt hq, ← hl.2.2.2 q hq]
    refine x_icmp_ge hC dX0_isBest_70 (q := 73) rfl (tgt := 215) rfl (fun h70 => ?_) (fun h70 => ?_)
    · have hp1 : p = kA σ 25 q := by
        have := (nI_leI (a := kA σ 25 q) (b := p) (by omega) (by omega)).mp h70
        omega
      subst hp1
      refine x_iconst hC dX0_isBest_215 (q := 216) rfl (v := (0)) (by decide) ?_
      refine x_istore hC dX0_isBest_216 (q := 218) rfl rfl ?_
      refine x_iconst hC dX0_isBest_218 (q := 219) rfl (v := (0)) (by decide) ?_
      refine x_istore hC dX0_isBest_219 (q := 221) rfl rfl ?_
      refine x_loop (S := (fun x : Nat × aEnv => (402 * (1 + kA σ 25 q), 2476 * (1 + kA σ 25 q), kmix (kT σ x.2) gF, ([some (.ref (kA σ 0 0)), some (.ref aa), some (.ref ad), some (.int (nI q)), some (.int sf), some (.int (nI h)), some (.int set), some (.int sum), some (.int last), some (.int (nI (asN (aFo α) σ q sf x.1))), some (.int (nI x.1))] : xL), ([] : List Value)))) (Inv := fun x => x.1 ≤ aI α 0) (μ := fun x => aI α 0 - x.1) ?_ (0, f) (Nat.zero_le _)
      intro x hj ih2
      obtain ⟨c, f⟩ := x
      dsimp only at hj ih2 ⊢
      refine x_iload hC dX0_isBest_221 (q := 223) rfl rfl ?_
      refine x_aloadr_n hC dX0_isBest_223 (q := 224) rfl rfl ?_
      refine x_get hC xf_X0_60_0 dX0_isBest_224 (q := 227) rfl (n := (101, 0)) (hat _) rfl ?_
      refine x_icmp_ge hC dX0_isBest_227 (q := 230) rfl (tgt := 276) rfl (fun h227 => ?_) (fun h227 => ?_)
      · have hc1 : c = aI α 0 := by
          have := (nI_leI (a := aI α 0) (b := c) (by omega) (by omega)).mp h227
          omega
        subst hc1
        refine x_iload hC dX0_isBest_276 (q := 278) rfl rfl ?_
        refine x_callS hC xv_X0_144 dX0_isBest_278 (q := 281) rfl rfl (m_J12_bitCount h0 _ set) rfl (Nat.le_of_ble_eq_true rfl) ⟨(by (try dsimp only); omega), (by (try dsimp only); omega)⟩ ⟨(by (try dsimp only); omega), (by (try dsimp only); omega)⟩ (fun v g1 hp => ?_)
        rw [(show jbits set = nI (kCnt w (kA σ 25 q)) from by obtain ⟨-, -, ⟨x, x1, x2, x3⟩, -⟩ := hb; exact x3), hcnt] at hp
        obtain ⟨rfl, hg1⟩ := hp
        replace hg1 := hg1.symm
        subst hg1
        refine x_aloadr_n hC dX0_isBest_281 (q := 282) rfl rfl ?_
        refine x_get hC xf_X0_115_16 dX0_isBest_282 (q := 285) rfl (n := (120, 0)) (hd0 _) rfl ?_
        refine x_iload_n hC dX0_isBest_285 (q := 286) rfl rfl ?_
        refine x_iald hC dX0_isBest_286 (q := 287) rfl (n := (122, 0)) (hd3 _ 6 (by decide) (by decide)) (j := q) rfl (by omega) (by decide) ?_
        rw [(hAI.2.1 q hq).2.1]
        refine x_icmp_ne hC dX0_isBest_287 (q := 290) rfl (tgt := 329) rfl (fun h287 => ?_) (fun h287 => ?_)
        · exact absurd rfl h287
        refine x_aloadr_n hC dX0_isBest_290 (q := 291) rfl rfl ?_
        refine x_iload_n hC dX0_isBest_291 (q := 292) rfl rfl ?_
        refine x_iconst hC dX0_isBest_292 (q := 293) rfl (v := (1)) (by decide) ?_
        refine x_callV hC xv_X0_141 dX0_isBest_293 (q := 296) rfl rfl (m_best h0 σ gF _ hF hw hFo.NB hNG q hq2 (1) (by omega)) (nn := (0, 0)) rfl rfl rfl (Nat.le_of_ble_eq_true rfl) ⟨(by (try dsimp only); omega), (by (try dsimp only); omega)⟩ ⟨(by (try dsimp only); omega), (by (try dsimp only); omega)⟩ (fun v g1 hp => ?_)
        obtain ⟨f8, rfl, hg1⟩ := hp
        subst hg1
        rw [b1, ← hb.1]
        refine x_iload hC dX0_isBest_296 (q := 298) rfl rfl ?_
        refine x_icmp_ne hC dX0_isBest_298 (q := 301) rfl (tgt := 329) rfl (fun h298 => ?_) (fun h298 => ?_)
        · exact absurd rfl h298
        refine x_iload hC dX0_isBest_301 (q := 303) rfl rfl ?_
        refine x_iload hC dX0_isBest_303 (q := 305) rfl rfl ?_
        refine x_icmp_lt hC dX0_isBest_305 (q := 308) rfl (tgt := 329) rfl (fun h305 => ?_) (fun h305 => ?_)
        · rw [hb.1] at h305
          exact absurd hle (Int32.not_le.mpr h305)
        refine x_aloadr_n hC dX0_isBest_308 (q := 309) rfl rfl ?_
        refine x_iload_n hC dX0_isBest_309 (q := 310) rfl rfl ?_
        refine x_iconst hC dX0_isBest_310 (q := 311) rfl (v := (2)) (by decide) ?_
        refine x_aloadr_n hC dX0_isBest_311 (q := 312) rfl rfl ?_
        refine x_get hC xf_X0_69_0 dX0_isBest_312 (q := 315) rfl (n := (101, 0)) (hat _) rfl ?_
        refine x_iload_n hC dX0_isBest_315 (q := 316) rfl rfl ?_
        refine x_iald hC dX0_isBest_316 (q := 317) rfl (n := (104, 0)) (har _) (j := q) rfl (by omega) (by decide) ?_
        rw [aF_lt hq, ← hl.2.2.2 q hq]
        refine x_iadd hC dX0_isBest_317 (q := 318) rfl ?_
        rw [show (2 : Int32) + nI (kA σ 25 q) = nI (2 + kA σ 25 q) from nI_add 2 _]
        refine x_callV hC xv_X0_141 dX0_isBest_318 (q := 321) rfl rfl (m_best h0 σ gF _ hF hw hFo.NB hNG q hq2 (2 + kA σ 25 q) (by omega)) (nn := (0, 0)) rfl rfl rfl (Nat.le_of_ble_eq_true rfl) ⟨(by (try dsimp only); omega), (by (try dsimp only); omega)⟩ ⟨(by (try dsimp only); omega), (by (try dsimp only); omega)⟩ (fun v g1 hp => ?_)
        obtain ⟨f9, rfl, hg1⟩ := hp
        subst hg1
        rw [b4]
        refine x_iconst hC dX0_isBest_321 (q := 322) rfl (v := (-1)) (by decide) ?_
        refine x_icmp_ne hC dX0_isBest_322 (q := 325) rfl (tgt := 329) rfl (fun h322 => ?_) (fun h322 => ?_)
        · exact absurd rfl h322
        refine x_iconst hC dX0_isBest_325 (q := 326) rfl (v := (1)) (by decide) ?_
        refine x_goto hC dX0_isBest_326 (tgt := 330) rfl ?_
        exact x_zret hC hr rfl dX0_isBest_330 (by (try dsimp only); omega) (by (try dsimp only); omega) ⟨_, rfl, rfl⟩
      have hc1 : c < aI α 0 := Nat.not_le.mp (fun w => h227 (nI_le w (by omega)))
      have hc2 : c < kA σ 61 0 := by rw [hl.1]; exact hc1
      refine x_iload hC dX0_isBest_230 (q := 232) rfl rfl ?_
      refine x_iload hC dX0_isBest_232 (q := 234) rfl rfl ?_
      refine x_if_lt hC dX0_isBest_234 (q := 237) rfl (tgt := 266) rfl (fun h234 => ?_) (fun h234 => ?_)
      · have hadd := asN_s (F := aFo α) (σ := σ) (q := q) (sf := sf) (c := c) (x := 0) (Or.inr ⟨fun w => absurd w.1 (Int32.not_le.mpr h234), rfl⟩)
        refine x_iconst hC dX0_isBest_266 (q := 267) rfl (v := (0)) (by decide) ?_
        refine x_iadd hC dX0_isBest_267 (q := 268) rfl ?_
        rw [hadd]
        refine x_istore hC dX0_isBest_268 (q := 270) rfl rfl ?_
        refine x_iinc hC dX0_isBest_270 (q := 273) rfl rfl (v := nI (c + 1)) (nI_1 c) ?_
        refine x_goto hC dX0_isBest_273 (tgt := 221) rfl ?_
        exact ih2 (c + 1, _) (by (try dsimp only); omega) (by (try dsimp only); omega)
      have hs0 : 0 ≤ sf := Int32.not_lt.mp h234
      obtain ⟨h1, hh1, hsf1⟩ : ∃ h1 : Nat, h1 ≤ 20 ∧ sf = nI h1 := by
        rcases hSA with ⟨-, e⟩ | ⟨-, ⟨e, -⟩ | ⟨j, j1, j2, -⟩⟩
        · rw [e] at hs0; exact absurd hs0 (by decide)
        · rw [e] at hs0; exact absurd hs0 (by decide)
        · exact ⟨j, by omega, j2⟩
      refine x_aloadr_n hC dX0_isBest_237 (q := 238) rfl rfl ?_
      refine x_get hC xf_X0_120_16 dX0_isBest_238 (q := 241) rfl (n := (120, 0)) (hd0 _) rfl ?_
      refine x_iload hC dX0_isBest_241 (q := 243) rfl rfl ?_
      refine x_iald hC dX0_isBest_243 (q := 244) rfl (n := (126, 0)) (hd6 _ 10 (by decide) (by decide)) (j := c) rfl (by omega) (by decide) ?_
      refine x_iload_n hC dX0_isBest_244 (q := 245) rfl rfl ?_
      rw [(hK c hc1).1]
      refine x_icmp_ne hC dX0_isBest_245 (q := 248) rfl (tgt := 266) rfl (fun h245 => ?_) (fun h245 => ?_)
      · have hadd := asN_s (F := aFo α) (σ := σ) (q := q) (sf := sf) (c := c) (x := 0) (Or.inr ⟨fun w => h245 ((hl.kil hpP hok hc1 hq).mpr w.2), rfl⟩)
        refine x_iconst hC dX0_isBest_266 (q := 267) rfl (v := (0)) (by decide) ?_
        refine x_iadd hC dX0_isBest_267 (q := 268) rfl ?_
        rw [hadd]
        refine x_istore hC dX0_isBest_268 (q := 270) rfl rfl ?_
        refine x_iinc hC dX0_isBest_270 (q := 273) rfl rfl (v := nI (c + 1)) (nI_1 c) ?_
        refine x_goto hC dX0_isBest_273 (tgt := 221) rfl ?_
        exact ih2 (c + 1, _) (by (try dsimp only); omega) (by (try dsimp only); omega)
      have hkc : kO σ 0 c 0 = some q := (hl.kil hpP hok hc1 hq).mp h245
      obtain ⟨-, pp, hpr, hp33⟩ := hpP.2.1 c q hc2 hkc
      refine x_aloadr_n hC dX0_isBest_248 (q := 249) rfl rfl ?_
      refine x_iload hC dX0_isBest_249 (q := 251) rfl rfl ?_
      refine x_iload hC dX0_isBest_251 (q := 253) rfl rfl ?_
      refine x_aloadr_n hC dX0_isBest_253 (q := 254) rfl rfl ?_
      refine x_get hC xf_X0_122_16 dX0_isBest_254 (q := 257) rfl (n := (120, 0)) (hd0 _) rfl ?_
      refine x_iload hC dX0_isBest_257 (q := 259) rfl rfl ?_
      refine x_iald hC dX0_isBest_259 (q := 260) rfl (n := (127, 0)) (hd6 _ 11 (by decide) (by decide)) (j := c) rfl (by omega) (by decide) ?_
      rw [(hK c hc1).2]
      refine x_callV hC xv_X0_97 dX0_isBest_260 (q := 263) rfl rfl (m_X2_rings h0 σ gF _ hF hw c hc2 sf (iI (kI σ 33 c)) (by rw [hsf1, nI_toInt (by omega)]; omega) (by rw [iI_toInt ⟨by omega, by omega⟩]; omega)) (nn := (0, 0)) rfl rfl rfl (Nat.le_of_ble_eq_true rfl) ⟨(by (try dsimp only); omega), (by (try dsimp only); omega)⟩ ⟨(by (try dsimp only); omega), (by (try dsimp only); omega)⟩ (fun v g1 hp => ?_)
      obtain ⟨f7, rfl, hg1⟩ := hp
      subst hg1
      have hadd := asN_s (F := aFo α) (σ := σ) (q := q) (sf := sf) (c := c) (x := kTemp (aFo α) σ c sf (iI (kI σ 33 c))) (Or.inl ⟨hs0, hkc, by
        obtain ⟨z, z1, z2, z3⟩ := aTempR hok hl hc1 hh1 (show pp ≤ 6 by omega)
        refine ⟨z.toNat, by omega, ?_, rfl⟩
        rw [hsf1, hp33, iI_nat, z1, ← iI_nat]
        congr 1
        omega⟩)
      refine x_goto hC dX0_isBest_263 (tgt := 267) rfl ?_
      refine x_iadd hC dX0_isBest_267 (q := 268) rfl ?_
      rw [hadd]
      refine x_istore hC dX0_isBest_268 (q := 270) rfl rfl ?_
      refine x_iinc hC dX0_isBest_270 (q := 273) rfl rfl (v := nI (c + 1)) (nI_1 c) ?_
      refine x_goto hC dX0_isBest_273 (tgt := 221) rfl ?_
      exact ih2 (c + 1, _) (by (try dsimp only); omega) (by (try dsimp only); omega)
    have hp1 : p < kA σ 25 q := Nat.not_le.mp (fun w => h70 (nI_le w (by omega)))
    refine x_aloadr_n hC dX0_isBest_73 (q := 74) rfl rfl ?_
    refine x_iload_n hC dX0_isBest_74 (q := 75) rfl rfl ?_
    refine x_iconst hC dX0_isBest_75 (q := 76) rfl (v := (2)) (by decide) ?_
    refine x_iload hC dX0_isBest_76 (q := 78) rfl rfl ?_
    refine x_iadd hC dX0_isBest_78 (q := 79) rfl ?_
    rw [show (2 : Int32) + nI p = nI (2 + p) from nI_add 2 p]
    refine x_callV hC xv_X0_141 dX0_isBest_79 (q := 82) rfl rfl (m_best h0 σ gF _ hF hw hFo.NB hNG q hq2 (2 + p) (by omega)) (nn := (0, 0)) rfl rfl rfl (Nat.le_of_ble_eq_true rfl) ⟨(by (try dsimp only); omega), (by (try dsimp only); omega)⟩ ⟨(by (try dsimp only); omega), (by (try dsimp only); omega)⟩ (fun v g1 hp => ?_)
    obtain ⟨f2, rfl, hg1⟩ := hp
    subst hg1
    rw [b3 p hp1]
    refine x_istore hC dX0_isBest_82 (q := 84) rfl rfl ?_
    refine x_iload hC dX0_isBest_84 (q := 86) rfl rfl ?_
    refine x_if_lt hC dX0_isBest_86 (q := 89) rfl (tgt := 205) rfl (fun h86 => ?_) (fun h86 => ?_)
    · have hwp : w p = none := by
        cases e : w p with
        | none => rfl
        | some c =>
          rw [e] at h86
          have := (hW p hp1 c e).1.1
          exact absurd (nI_le (a := 0) (b := c) (Nat.zero_le _) (by omega)) (Int32.not_le.mpr h86)
      refine x_iload hC dX0_isBest_205 (q := 207) rfl rfl ?_
      refine x_istore hC dX0_isBest_207 (q := 209) rfl rfl ?_
      refine x_iinc hC dX0_isBest_209 (q := 212) rfl rfl (v := nI (p + 1)) (nI_1 p) ?_
      refine x_goto hC dX0_isBest_212 (tgt := 62) rfl ?_
      first
        | exact ih (p + 1, _, _, _, _, _) ⟨by (try dsimp only); omega, hb.n hwp⟩ (by (try dsimp only); omega)
        | exact ih (p + 1, _, _, _, _, _) ⟨by (try dsimp only); omega, hb.s hwp (by omega) hdis (kBT_w hc1 hcq hp1).1.symm⟩ (by (try dsimp only); omega)
    obtain ⟨c, hwp⟩ : ∃ c, w p = some c := by
      cases e : w p with
      | none => rw [e] at h86; exact absurd (show (-1 : Int32) < 0 by decide) h86
      | some c => exact ⟨c, rfl⟩
    obtain ⟨⟨hc1, hcq⟩, hck, hdis, hst⟩ := hW p hp1 c hwp
    have hcn : c < aI α 0 := by rw [← hl.1]; exact hc1
    rw [show oI (w p) = nI c from by rw [hwp]; rfl]
    refine x_iload hC dX0_isBest_89 (q := 91) rfl rfl ?_
    refine x_aloadr_n hC dX0_isBest_91 (q := 92) rfl rfl ?_
    refine x_get hC xf_X0_60_0 dX0_isBest_92 (q := 95) rfl (n := (101, 0)) (hat _) rfl ?_
    refine x_icmp_ge hC dX0_isBest_95 (q := 98) rfl (tgt := 133) rfl (fun h95 => ?_) (fun h95 => ?_)
    · exact absurd ((nI_leI (by omega) (by omega)).mp h95) (by omega)
    refine x_aloadr_n hC dX0_isBest_98 (q := 99) rfl rfl ?_
    refine x_get hC xf_X0_120_16 dX0_isBest_99 (q := 102) rfl (n := (120, 0)) (hd0 _) rfl ?_
    refine x_iload hC dX0_isBest_102 (q := 104) rfl rfl ?_
    refine x_iald hC dX0_isBest_104 (q := 105) rfl (n := (126, 0)) (hd6 _ 10 (by decide) (by decide)) (j := c) rfl (by omega) (by decide) ?_
    refine x_iload_n hC dX0_isBest_105 (q := 106) rfl rfl ?_
    rw [(hK c hcn).1, show kKil σ c = nI q from by unfold kKil; rw [hcq]]
    refine x_icmp_ne hC dX0_isBest_106 (q := 109) rfl (tgt := 133) rfl (fun h106 => ?_) (fun h106 => ?_)
    · exact absurd rfl h106
    refine x_iload hC dX0_isBest_109 (q := 111) rfl rfl ?_
    refine x_iload hC dX0_isBest_111 (q := 113) rfl rfl ?_
    refine x_ishr hC dX0_isBest_113 (q := 114) rfl ?_
    refine x_iconst hC dX0_isBest_114 (q := 115) rfl (v := (1)) (by decide) ?_
    refine x_iand hC dX0_isBest_115 (q := 116) rfl ?_
    refine x_iconst hC dX0_isBest_116 (q := 117) rfl (v := (1)) (by decide) ?_
    refine x_icmp_eq hC dX0_isBest_117 (q := 120) rfl (tgt := 133) rfl (fun h117 => ?_) (fun h117 => ?_)
    · obtain ⟨j, j1, j2⟩ := (hb.2.2.2 c (by omega)).mp ((b_at set (show c < 32 by omega)).mp h117)
      exact absurd j2 (hdis j j1)
    refine x_aloadr_n hC dX0_isBest_120 (q := 121) rfl rfl ?_
    refine x_iload hC dX0_isBest_121 (q := 123) rfl rfl ?_
    refine x_iload hC dX0_isBest_123 (q := 125) rfl rfl ?_
    refine x_iload hC dX0_isBest_125 (q := 127) rfl rfl ?_
    refine x_callV hC xv_X0_106 dX0_isBest_127 (q := 130) rfl rfl (m_X2_cracks h0 σ gF _ hF hw c hc1 (nI h) (nI (p)) ⟨by rw [nI_toInt (by omega)]; omega, by rw [nI_toInt (by omega)]; omega⟩ ⟨by rw [nI_toInt (by omega)]; omega, by rw [nI_toInt (by omega)]; omega⟩) (nn := (0, 0)) rfl rfl rfl (Nat.le_of_ble_eq_true rfl) ⟨(by (try dsimp only); omega), (by (try dsimp only); omega)⟩ ⟨(by (try dsimp only); omega), (by (try dsimp only); omega)⟩ (fun v g1 hp => ?_)
    obtain ⟨f3, rfl, hg1⟩ := hp
    subst hg1
    refine x_if_eq hC dX0_isBest_130 (q := 133) rfl (tgt := 135) rfl (fun h130 => ?_) (fun h130 => ?_)
    · have hx130 := h130
      refine x_iload hC dX0_isBest_135 (q := 137) rfl rfl ?_
      refine x_if_lt hC dX0_isBest_137 (q := 140) rfl (tgt := 181) rfl (fun h137 => ?_) (fun h137 => ?_)
      · have hx137 := h137
        refine x_iload hC dX0_isBest_181 (q := 183) rfl rfl ?_
        refine x_iconst hC dX0_isBest_183 (q := 184) rfl (v := (1)) (by decide) ?_
        refine x_iload hC dX0_isBest_184 (q := 186) rfl rfl ?_
        refine x_ishl hC dX0_isBest_186 (q := 187) rfl ?_
        refine x_ior hC dX0_isBest_187 (q := 188) rfl ?_
        refine x_istore hC dX0_isBest_188 (q := 190) rfl rfl ?_
        refine x_iload hC dX0_isBest_190 (q := 192) rfl rfl ?_
        refine x_aloadr_n hC dX0_isBest_192 (q := 193) rfl rfl ?_
        refine x_iload hC dX0_isBest_193 (q := 195) rfl rfl ?_
        refine x_iload hC dX0_isBest_195 (q := 197) rfl rfl ?_
        refine x_iload hC dX0_isBest_197 (q := 199) rfl rfl ?_
        refine x_callV hC xv_X0_97 dX0_isBest_199 (q := 202) rfl rfl (m_X2_rings h0 σ gF _ hF hw c hc1 (nI h) (nI (p)) ⟨by rw [nI_toInt (by omega)]; omega, by rw [nI_toInt (by omega)]; omega⟩ ⟨by rw [nI_toInt (by omega)]; omega, by rw [nI_toInt (by omega)]; omega⟩) (nn := (0, 0)) rfl rfl rfl (Nat.le_of_ble_eq_true rfl) ⟨(by (try dsimp only); omega), (by (try dsimp only); omega)⟩ ⟨(by (try dsimp only); omega), (by (try dsimp only); omega)⟩ (fun v g1 hp => ?_)
        obtain ⟨f6, rfl, hg1⟩ := hp
        subst hg1
        refine x_iadd hC dX0_isBest_202 (q := 203) rfl ?_
        refine x_istore hC dX0_isBest_203 (q := 205) rfl rfl ?_
        refine x_iload hC dX0_isBest_205 (q := 207) rfl rfl ?_
        refine x_istore hC dX0_isBest_207 (q := 209) rfl rfl ?_
        refine x_iinc hC dX0_isBest_209 (q := 212) rfl rfl (v := nI (p + 1)) (nI_1 p) ?_
        refine x_goto hC dX0_isBest_212 (tgt := 62) rfl ?_
        first
          | exact ih (p + 1, _, _, _, _, _) ⟨by (try dsimp only); omega, hb.n hwp⟩ (by (try dsimp only); omega)
          | exact ih (p + 1, _, _, _, _, _) ⟨by (try dsimp only); omega, hb.s hwp (by omega) hdis (kBT_w hc1 hcq hp1).1.symm⟩ (by (try dsimp only); omega)
      obtain ⟨d, hp0, hwd, hlast⟩ : ∃ d, 0 < p ∧ w (p - 1) = some d ∧ last = nI d := by
        have hL := hb.2.1
        by_cases e : p = 0
        · rw [if_pos e] at hL; rw [hL] at h137; exact absurd (show (-1 : Int32) < 0 by decide) h137
        · rw [if_neg e] at hL
          cases e2 : w (p - 1) with
          | none => rw [e2] at hL; rw [hL] at h137; exact absurd (show (-1 : Int32) < 0 by decide) h137
          | some d => rw [e2] at hL; exact ⟨d, by omega, rfl, hL⟩
      obtain ⟨⟨hd1, hdq⟩, -⟩ := hW (p - 1) (by omega) d hwd
      have hdn : d < aI α 0 := by rw [← hl.1]; exact hd1
      have hstd := hst d hp0 hwd
      rw [(kBT_w hd1 hdq (show p - 1 < kA σ 25 q by omega)).1, (kBT_w hc1 hcq hp1).1] at hstd
      rw [hlast]
      refine x_aloadr_n hC dX0_isBest_140 (q := 141) rfl rfl ?_
      refine x_iload hC dX0_isBest_141 (q := 143) rfl rfl ?_
      refine x_iload hC dX0_isBest_143 (q := 145) rfl rfl ?_
      refine x_aloadr_n hC dX0_isBest_145 (q := 146) rfl rfl ?_
      refine x_iload hC dX0_isBest_146 (q := 148) rfl rfl ?_
      refine x_iload hC dX0_isBest_148 (q := 150) rfl rfl ?_
      refine x_iload hC dX0_isBest_150 (q := 152) rfl rfl ?_
      refine x_iconst hC dX0_isBest_152 (q := 153) rfl (v := (1)) (by decide) ?_
      refine x_isub hC dX0_isBest_153 (q := 154) rfl ?_
      rw [show nI p - 1 = nI (p - 1) from by rw [show nI p = nI (p - 1) + 1 from by rw [nI_1, show p - 1 + 1 = p by omega], Int32.add_sub_cancel]]
      refine x_callV hC xv_X0_97 dX0_isBest_154 (q := 157) rfl rfl (m_X2_rings h0 σ gF _ hF hw d hd1 (nI h) (nI (p - 1)) ⟨by rw [nI_toInt (by omega)]; omega, by rw [nI_toInt (by omega)]; omega⟩ ⟨by rw [nI_toInt (by omega)]; omega, by rw [nI_toInt (by omega)]; omega⟩) (nn := (0, 0)) rfl rfl rfl (Nat.le_of_ble_eq_true rfl) ⟨(by (try dsimp only); omega), (by (try dsimp only); omega)⟩ ⟨(by (try dsimp only); omega), (by (try dsimp only); omega)⟩ (fun v g1 hp => ?_)
      obtain ⟨f4, rfl, hg1⟩ := hp
      subst hg1
      refine x_aloadr_n hC dX0_isBest_157 (q := 158) rfl rfl ?_
      refine x_iload hC dX0_isBest_158 (q := 160) rfl rfl ?_
      refine x_iload hC dX0_isBest_160 (q := 162) rfl rfl ?_
      refine x_iload hC dX0_isBest_162 (q := 164) rfl rfl ?_
      refine x_callV hC xv_X0_97 dX0_isBest_164 (q := 167) rfl rfl (m_X2_rings h0 σ gF _ hF hw c hc1 (nI h) (nI (p)) ⟨by rw [nI_toInt (by omega)]; omega, by rw [nI_toInt (by omega)]; omega⟩ ⟨by rw [nI_toInt (by omega)]; omega, by rw [nI_toInt (by omega)]; omega⟩) (nn := (0, 0)) rfl rfl rfl (Nat.le_of_ble_eq_true rfl) ⟨(by (try dsimp only); omega), (by (try dsimp only); omega)⟩ ⟨(by (try dsimp only); omega), (by (try dsimp only); omega)⟩ (fun v g1 hp => ?_)
      obtain ⟨f5, rfl, hg1⟩ := hp
      subst hg1
      refine x_isub hC dX0_isBest_167 (q := 168) rfl ?_
      refine x_callS hC xv_X0_128 dX0_isBest_168 (q := 171) rfl rfl (m_J0_abs h0 _ (kTemp (aFo α) σ d (nI h) (nI (p - 1)) - kTemp (aFo α) σ c (nI h) (nI p))) rfl (Nat.le_of_ble_eq_true rfl) ⟨(by (try dsimp only); omega), (by (try dsimp only); omega)⟩ ⟨(by (try dsimp only); omega), (by (try dsimp only); omega)⟩ (fun v g1 hp => ?_)
      obtain ⟨za, zb1, zb2, zb3⟩ := aTempR hok hl hdn hh20 (show p - 1 ≤ 6 by omega)
      obtain ⟨zc1, zd1, zd2, zd3⟩ := aTempR hok hl hcn hh20 (show p ≤ 6 by omega)
      obtain ⟨z, hz1, hz2, hz3, -⟩ := abs99 zb1 zd1 ⟨zb2, zb3⟩ ⟨zd2, zd3⟩
      rw [hz1] at hp
      obtain ⟨rfl, hg1⟩ := hp
      replace hg1 := hg1.symm
      subst hg1
      refine x_iload hC dX0_isBest_171 (q := 173) rfl rfl ?_
      refine x_callV hC xv_X0_131 dX0_isBest_173 (q := 176) rfl rfl (m_X1_sticks h0 _ (hA.km (kT σ _)) hok hdn hcn (z := z) (h := (h : Int)) ⟨by omega, by omega⟩ ⟨by omega, by omega⟩) (nn := (101, 0)) (hat _) rfl rfl (Nat.le_of_ble_eq_true rfl) ⟨(by (try dsimp only); omega), (by (try dsimp only); omega)⟩ ⟨(by (try dsimp only); omega), (by (try dsimp only); omega)⟩ (fun v g1 hp => ?_)
      have hsk := aStk hok hl hdn hcn (h := (h : Int)) ⟨by omega, by omega⟩ ⟨hz2, hz3⟩ hz1
      rw [← hsk, iI_nat] at hp
      obtain ⟨rfl, hg1⟩ := hp
      replace hg1 := hg1.symm
      subst hg1
      refine x_if_eq hC dX0_isBest_176 (q := 179) rfl (tgt := 181) rfl (fun h176 => ?_) (fun h176 => ?_)
      · have hx176 := h176
        refine x_iload hC dX0_isBest_181 (q := 183) rfl rfl ?_
        refine x_iconst hC dX0_isBest_183 (q := 184) rfl (v := (1)) (by decide) ?_
        refine x_iload hC dX0_isBest_184 (q := 186) rfl rfl ?_
        refine x_ishl hC dX0_isBest_186 (q := 187) rfl ?_
        refine x_ior hC dX0_isBest_187 (q := 188) rfl ?_
        refine x_istore hC dX0_isBest_188 (q := 190) rfl rfl ?_
        refine x_iload hC dX0_isBest_190 (q := 192) rfl rfl ?_
        refine x_aloadr_n hC dX0_isBest_192 (q := 193) rfl rfl ?_
        refine x_iload hC dX0_isBest_193 (q := 195) rfl rfl ?_
        refine x_iload hC dX0_isBest_195 (q := 197) rfl rfl ?_
        refine x_iload hC dX0_isBest_197 (q := 199) rfl rfl ?_
        refine x_callV hC xv_X0_97 dX0_isBest_199 (q := 202) rfl rfl (m_X2_rings h0 σ gF _ hF hw c hc1 (nI h) (nI (p)) ⟨by rw [nI_toInt (by omega)]; omega, by rw [nI_toInt (by omega)]; omega⟩ ⟨by rw [nI_toInt (by omega)]; omega, by rw [nI_toInt (by omega)]; omega⟩) (nn := (0, 0)) rfl rfl rfl (Nat.le_of_ble_eq_true rfl) ⟨(by (try dsimp only); omega), (by (try dsimp only); omega)⟩ ⟨(by (try dsimp only); omega), (by (try dsimp only); omega)⟩ (fun v g1 hp => ?_)
        obtain ⟨f6, rfl, hg1⟩ := hp
        subst hg1
        refine x_iadd hC dX0_isBest_202 (q := 203) rfl ?_
        refine x_istore hC dX0_isBest_203 (q := 205) rfl rfl ?_
        refine x_iload hC dX0_isBest_205 (q := 207) rfl rfl ?_
        refine x_istore hC dX0_isBest_207 (q := 209) rfl rfl ?_
        refine x_iinc hC dX0_isBest_209 (q := 212) rfl rfl (v := nI (p + 1)) (nI_1 p) ?_
        refine x_goto hC dX0_isBest_212 (tgt := 62) rfl ?_
        first
          | exact ih (p + 1, _, _, _, _, _) ⟨by (try dsimp only); omega, hb.n hwp⟩ (by (try dsimp only); omega)
          | exact ih (p + 1, _, _, _, _, _) ⟨by (try dsimp only); omega, hb.s hwp (by omega) hdis (kBT_w hc1 hcq hp1).1.symm⟩ (by (try dsimp only); omega)
      · exact absurd (if_pos hstd) h176
    · exact absurd (if_pos ((kBT_w hc1 hcq hp1).2.symm.trans hck)) h130
  · exact absurd (nI_le (a := 0) (b := h) (Nat.zero_le _) (by omega)) h10

theorem m_X0_isBest {l : Launch} {s0 : State} {D : va_G} (h0 : x0 l s0 D) (σ : KS) (gF : xG) (f : aEnv) {ad aa d0 : Nat} {α : aA} {I : Nat → Int32} {V : Nat → Nat → Int32} {M : Nat → Nat → Nat → Int32} {R : Nat} (hD : DW gF ad I V M) (hA : AH gF aa α) (hok : aOk α) (hl : LT σ α) (hG : KSt gF (aFo α) d0 σ) (hFo : KFo s0 gF d0) (hAI : AI (aFo α) σ V M R (aI α 1) (aI α 0)) {q : Nat} (hq : q < aI α 1) (hro4 : aRo α q ≤ 4) {sf : Int32} (hSA : kSfA (aFo α) σ q sf) : xMet l s0 D yX0_isBest cX0_isBest 11 (some .boolean) (xr 50 2900 17500 2200) [.ref (kA σ 0 0), .ref aa, .ref ad, .int (nI q), .int sf] (kmix (kT σ f) gF) (fun r g1 => ∃ f1, r = some (.int 1) ∧ g1 = kmix (kT σ f1) gF) := by
  rcases bestLaw hok hl hG.2.1.1 hG.2.2.1 hq hSA with ⟨a, b, c, d⟩ | ⟨h, w, a, b, c, d, e, i, j, k⟩
  · exact m_isBest_n h0 σ gF f hD hA hok hl hG hFo hAI hq hro4 a b c d
  · exact m_isBest_h h0 σ gF f hD hA hok hl hG hFo hAI hq hro4 hSA a b c d e i j k
