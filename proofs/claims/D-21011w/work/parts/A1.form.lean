/-! formulas are parsed: contracts by the grammar -/
theorem hdS_is {tk : List Tk} {c : Nat} (h : hdS tk c = true) : tk = (3, [c]) :: tk.tail := by
  have h1 := of_decide_eq_true h
  cases tk with
  | nil => cases h1
  | cons t ts => rw [show t = (3, [c]) from h1]; rfl
theorem hdW_is {tk : List Tk} {w : List Nat} (h : hdW tk w = true) : tk = (1, w) :: tk.tail := by
  have h1 := of_decide_eq_true h
  cases tk with
  | nil => cases h1
  | cons t ts => rw [show t = (1, w) from h1]; rfl
theorem isP_is {tk : List Tk} (h : isP tk = true) : ∃ c, tk = (3, [c]) :: tk.tail ∧ c < 128 ∧ aSign (nI c) := by
  unfold isP at h
  rw [Bool.or_eq_true, Bool.or_eq_true] at h
  rcases h with (h | h) | h
  · exact ⟨42, hdS_is h, by decide, Or.inr (Or.inr (Or.inl rfl))⟩
  · exact ⟨47, hdS_is h, by decide, Or.inr (Or.inr (Or.inr (Or.inl rfl)))⟩
  · exact ⟨37, hdS_is h, by decide, Or.inr (Or.inr (Or.inr (Or.inr rfl)))⟩
theorem isQ_is {tk : List Tk} (h : isQ tk = true) : ∃ c, tk = (3, [c]) :: tk.tail ∧ c < 128 ∧ aSign (nI c) := by
  unfold isQ at h
  rw [Bool.or_eq_true] at h
  rcases h with h | h
  · exact ⟨43, hdS_is h, by decide, Or.inl rfl⟩
  · exact ⟨45, hdS_is h, by decide, Or.inr (Or.inl rfl)⟩
theorem isA_is {tk : List Tk} (h : isA tk = true) : ∃ c, tk = (3, [c]) :: tk.tail ∧ c < 128 := by
  unfold isA at h
  rw [Bool.or_eq_true, Bool.or_eq_true] at h
  rcases h with h | h | h
  · exact ⟨60, hdS_is h, by decide⟩
  · exact ⟨62, hdS_is h, by decide⟩
  · exact ⟨61, hdS_is h, by decide⟩
/-- a parser takes something -/
def pLen (p : pP) : Prop := ∀ (tk : List Tk) (r : pR), p tk = some r → r.2.2.length < tk.length
theorem pLen_No : pLen pNo := fun tk r h => by cases h
theorem pTake_is {c : Nat} {tk t1 : List Tk} (h : pTake c tk = some t1) : tk = (3, [c]) :: t1 := by
  unfold pTake at h
  split at h
  · next q => cases h; exact hdS_is q
  · cases h
theorem bind_is {α β : Type} {o : Option α} {f : α → Option β} {r : β} (h : o.bind f = some r) : ∃ a, o = some a ∧ f a = some r := by
  cases o with
  | none => cases h
  | some a => exact ⟨a, rfl, h⟩
theorem pChosen_is {S T : pP} {ts : List Tk} {r : pR} (h : pChosen S T ts = some r) : ∃ (t1 t3 t5 t7 : List Tk) (r0 r1 r2 : pR), ts = (3, [40]) :: t1 ∧ T t1 = some r0 ∧ r0.2.2 = (3, [44]) :: t3 ∧ S t3 = some r1 ∧ r1.2.2 = (3, [44]) :: t5 ∧ S t5 = some r2 ∧ r2.2.2 = (3, [41]) :: t7 ∧ r = (fun e => if r0.1 e = 0 then r2.1 e else r1.1 e, max r0.2.1 (max r1.2.1 r2.2.1) + 1, t7) := by
  unfold pChosen at h
  obtain ⟨t1, e1, h⟩ := bind_is h
  obtain ⟨r0, e2, h⟩ := bind_is h
  obtain ⟨t3, e3, h⟩ := bind_is h
  obtain ⟨r1, e4, h⟩ := bind_is h
  obtain ⟨t5, e5, h⟩ := bind_is h
  obtain ⟨r2, e6, h⟩ := bind_is h
  obtain ⟨t7, e7, h⟩ := bind_is h
  cases h
  exact ⟨t1, t3, t5, t7, r0, r1, r2, pTake_is e1, e2, pTake_is e3, e4, pTake_is e5, e6, pTake_is e7, rfl⟩
theorem hdk_ne {tk : List Tk} (h : hdk tk ≠ 0) : ∃ t ts, tk = t :: ts := by
  cases tk with
  | nil => exact absurd rfl h
  | cons t ts => exact ⟨t, ts, rfl⟩
theorem pPart_is {fr to : Nat} {S T : pP} {tk : List Tk} {r : pR} (h : pPart fr to S T tk = some r) : (∃ w ts, tk = (2, w) :: ts ∧ r = (fun _ => (nI (sN w)).toInt64, 1, ts)) ∨ (∃ w ts, tk = (1, w) :: ts ∧ pWord fr to S T tk = some r) ∨ ∃ (t1 t3 : List Tk) (r1 : pR), tk = (3, [40]) :: t1 ∧ S t1 = some r1 ∧ r1.2.2 = (3, [41]) :: t3 ∧ r = (r1.1, r1.2.1, t3) := by
  unfold pPart at h
  split at h
  · next q =>
    obtain ⟨⟨t1, w⟩, ts, rfl⟩ := hdk_ne (by rw [q]; decide)
    cases h
    exact Or.inl ⟨w, ts, by rw [show t1 = 2 from q], rfl⟩
  · split at h
    · next q =>
      obtain ⟨⟨t1, w⟩, ts, rfl⟩ := hdk_ne (by rw [q]; decide)
      exact Or.inr (Or.inl ⟨w, ts, by rw [show t1 = 1 from q], h⟩)
    · obtain ⟨t1, e1, h⟩ := bind_is h
      obtain ⟨r1, e2, h⟩ := bind_is h
      obtain ⟨t3, e3, h⟩ := bind_is h
      cases h
      exact Or.inr (Or.inr ⟨t1, t3, r1, pTake_is e1, e2, pTake_is e3, rfl⟩)
theorem pWord_is {fr to : Nat} {S T : pP} {w : List Nat} {ts : List Tk} {r : pR} (h : pWord fr to S T ((1, w) :: ts) = some r) : (∃ k, askIx fr to w 0 10 = some k ∧ r = (fun e => e k, 1, ts)) ∨ (askIx fr to w 0 10 = none ∧ w = cW 7 ∧ pChosen S T ts = some r) := by
  unfold pWord at h
  change (match askIx fr to w 0 10 with | some k => _ | none => _) = _ at h
  cases hk : askIx fr to w 0 10 with
  | some k => rw [hk] at h; cases h; exact Or.inl ⟨k, rfl, rfl⟩
  | none =>
    rw [hk] at h
    simp only at h
    split at h
    · next q => exact Or.inr ⟨rfl, by have := of_decide_eq_true q; injection this, h⟩
    · cases h
theorem pLen_Part {fr to : Nat} {S T : pP} (hS : pLen S) (hT : pLen T) : pLen (pPart fr to S T) := by
  intro tk r h
  rcases pPart_is h with ⟨w, ts, rfl, rfl⟩ | ⟨w, ts, rfl, h2⟩ | ⟨t1, t3, r1, rfl, h2, h3, rfl⟩
  · exact Nat.lt_succ_self _
  · rcases pWord_is h2 with ⟨k, -, rfl⟩ | ⟨-, -, h3⟩
    · exact Nat.lt_succ_self _
    · obtain ⟨t1, t3, t5, t7, r0, r1, r2, rfl, q1, q2, q3, q4, q5, q6, rfl⟩ := pChosen_is h3
      have a1 := hT _ _ q1
      have a2 := hS _ _ q3
      have a3 := hS _ _ q5
      rw [q2] at a1; rw [q4] at a2; rw [q6] at a3
      simp only [List.length_cons] at *
      omega
  · have a1 := hS _ _ h2
    rw [h3] at a1
    simp only [List.length_cons] at *
    omega
theorem pMore_len2 {isS : List Tk → Bool} {P : pP} (hP : pLen P) : ∀ (n : Nat) (sgs : List Nat) (fs : List (aEnv → Int64)) (d : Nat) (tk : List Tk) (r : pR), pMore isS P n sgs fs d tk = some r → r.2.2.length ≤ tk.length := by
  intro n
  induction n with
  | zero => intro sgs fs d tk r h; cases h
  | succ n ih =>
    intro sgs fs d tk r h
    unfold pMore at h
    split at h
    · obtain ⟨r2, e, h⟩ := bind_is h
      have a1 := hP _ _ e
      have a2 := ih _ _ _ _ _ h
      rw [List.length_tail] at a1
      omega
    · cases h; exact Nat.le_refl _
theorem pCh_is {isS : List Tk → Bool} {P : pP} {c : Nat} {tk : List Tk} {r : pR} (h : pCh isS P c tk = some r) : ∃ r1, P tk = some r1 ∧ (isS r1.2.2 = false ∧ r = r1 ∨ isS r1.2.2 = true ∧ pMore isS P 9 [c] [r1.1] r1.2.1 r1.2.2 = some r) := by
  unfold pCh at h
  obtain ⟨r1, e, h⟩ := bind_is h
  refine ⟨r1, e, ?_⟩
  cases hb : isS r1.2.2 with
  | false => rw [hb] at h; cases h; exact Or.inl ⟨rfl, rfl⟩
  | true => rw [hb] at h; exact Or.inr ⟨rfl, h⟩
theorem pLen_Ch {isS : List Tk → Bool} {P : pP} {c : Nat} (hP : pLen P) : pLen (pCh isS P c) := by
  intro tk r h
  obtain ⟨r1, e, ⟨-, rfl⟩ | ⟨-, h2⟩⟩ := pCh_is h
  · exact hP _ _ e
  · exact Nat.lt_of_le_of_lt (pMore_len2 hP _ _ _ _ _ _ h2) (hP _ _ e)
theorem pLen_Sum {fr to : Nat} {S T : pP} (hS : pLen S) (hT : pLen T) : pLen (pSum fr to S T) := pLen_Ch (pLen_Ch (pLen_Part hS hT))
theorem pAg_is {S : pP} {tk : List Tk} {r : pR} (h : pAg S tk = some r) : ∃ (r1 r2 : pR) (c : Nat) (ts : List Tk), S tk = some r1 ∧ r1.2.2 = (3, [c]) :: ts ∧ c < 128 ∧ isA ((3, [c]) :: ts) = true ∧ S ts = some r2 ∧ r = (fun e => aCmp (nI c) (r1.1 e) (r2.1 e), max r1.2.1 r2.2.1 + 1, r2.2.2) := by
  unfold pAg at h
  obtain ⟨r1, e, h⟩ := bind_is h
  split at h
  · next q =>
    obtain ⟨r2, e2, h⟩ := bind_is h
    obtain ⟨c, hc, h8⟩ := isA_is q
    cases h
    exact ⟨r1, r2, c, _, e, hc, h8, by rw [← hc]; exact q, e2, by rw [show sgn r1.2.2 = c by rw [hc]; rfl]⟩
  · cases h
theorem pLen_Ag {S : pP} (hS : pLen S) : pLen (pAg S) := by
  intro tk r h
  obtain ⟨r1, r2, c, ts, e1, e2, -, -, e3, rfl⟩ := pAg_is h
  have a1 := hS _ _ e1
  have a2 := hS _ _ e3
  rw [e2] at a1
  simp only [List.length_cons] at *
  omega
theorem pFact_is {S : pP} {tk : List Tk} {r : pR} (h : pFact S tk = some r) : hdW tk (cW 8) = false ∧ hdS tk 91 = false ∧ hdW tk (cW 9) = false ∧ pAg S tk = some r := by
  unfold pFact at h
  split at h
  · cases h
  · next q =>
    rw [Bool.or_eq_true, Bool.or_eq_true] at q
    exact ⟨Bool.eq_false_iff.mpr fun e => q (Or.inl e), Bool.eq_false_iff.mpr fun e => q (Or.inr (Or.inl e)), Bool.eq_false_iff.mpr fun e => q (Or.inr (Or.inr e)), h⟩
theorem pLen_Fact {S : pP} (hS : pLen S) : pLen (pFact S) := fun tk r h => pLen_Ag hS _ _ (pFact_is h).2.2.2
theorem pMoreW_len {w : List Nat} {all : Int64} {P : pP} (hP : pLen P) : ∀ (n : Nat) (fs : List (aEnv → Int64)) (d : Nat) (tk : List Tk) (r : pR), pMoreW w all P n fs d tk = some r → r.2.2.length ≤ tk.length := by
  intro n
  induction n with
  | zero => intro fs d tk r h; cases h
  | succ n ih =>
    intro fs d tk r h
    unfold pMoreW at h
    split at h
    · obtain ⟨r2, e, h⟩ := bind_is h
      have a1 := hP _ _ e
      have a2 := ih _ _ _ _ h
      rw [List.length_tail] at a1
      omega
    · cases h; exact Nat.le_refl _
theorem pSev_is {w : List Nat} {all : Int64} {P : pP} {tk : List Tk} {r : pR} (h : pSev w all P tk = some r) : ∃ r1, P tk = some r1 ∧ (hdW r1.2.2 w = false ∧ r = r1 ∨ hdW r1.2.2 w = true ∧ pMoreW w all P 9 [r1.1] r1.2.1 r1.2.2 = some r) := by
  unfold pSev at h
  obtain ⟨r1, e, h⟩ := bind_is h
  refine ⟨r1, e, ?_⟩
  cases hb : hdW r1.2.2 w with
  | false => rw [hb] at h; cases h; exact Or.inl ⟨rfl, rfl⟩
  | true => rw [hb] at h; exact Or.inr ⟨rfl, h⟩
theorem pLen_Sev {w : List Nat} {all : Int64} {P : pP} (hP : pLen P) : pLen (pSev w all P) := by
  intro tk r h
  obtain ⟨r1, e, ⟨-, rfl⟩ | ⟨-, h2⟩⟩ := pSev_is h
  · exact hP _ _ e
  · exact Nat.lt_of_le_of_lt (pMoreW_len hP _ _ _ _ _ h2) (hP _ _ e)
theorem pLen_Test {S : pP} (hS : pLen S) : pLen (pTest S) := pLen_Sev (pLen_Sev (pLen_Fact hS))
theorem pLen_Lv (fr to : Nat) : ∀ n, pLen (pLv fr to n).1 ∧ pLen (pLv fr to n).2 := by
  intro n
  induction n with
  | zero => exact ⟨pLen_Sum pLen_No pLen_No, pLen_Test (pLen_Sum pLen_No pLen_No)⟩
  | succ n ih => exact ⟨pLen_Sum ih.1 ih.2, pLen_Test (pLen_Sum ih.1 ih.2)⟩
/-- what a parsing method leaves -/
def fPost (g : xG) (sc : Nat) (Z : Nat × Nat × Nat) (tx : List Nat) (fr to op N : Nat) (e b : Bool) (r0 : pR) : Option Value → xG → Prop := fun r g1 => ∃ a N1, r = some (.ref a) ∧ N ≤ N1 ∧ PF N g g1 ∧ FR N1 g1 ∧ PSt g1 sc Z tx fr to op e r0.2.2 ∧ aR (fW N N1 g1) r0.2.1 b a r0.1
abbrev fRoom (F k Lo : Nat) (tk tk1 : List Tk) : Room := xr F (20 * (tk.length - tk1.length - 1) + k) (5000 * (tk.length - tk1.length - 1) + 20 * k) Lo
/-- a parsing method follows the grammar: e the token ahead is seen at its end; levels lv may open -/
def cP (l : Launch) (s0 : State) (D : va_G) (y : MethodName) (cc : ByteArray) (L : Nat) (cn : String) (b e : Bool) (F Lo k lv fr to : Nat) (p : pP) : Prop :=
  ∀ (g : xG) (sc : Nat) (Z : Nat × Nat × Nat) (tx : List Nat) (A V B : Nat → Nat) (d0 op N : Nat) (sn : Bool) (tk : List Tk) (r0 : pR), PE g Z tx A V B → KS0 s0 A V B → xE0 s0 g d0 → PSt g sc Z tx fr to op sn tk → FR N g → op + lv ≤ 7 → p tk = some r0 → xMet l s0 D y cc L (some (.object cn)) (fRoom F k Lo tk r0.2.2) [.ref sc] g (fPost g sc Z tx fr to op N e b r0)
theorem isInN {a v b : Nat} (ha : a < 2147483648) (hv : v < 2147483648) (hb : b < 2147483648) : (if (nI a).toInt64 ≤ (nI v).toInt64 ∧ (nI v).toInt64 ≤ (nI b).toInt64 then (1 : Int32) else 0) = b01 (decide (a ≤ v ∧ v ≤ b)) := by
  have key : ((nI a).toInt64 ≤ (nI v).toInt64 ∧ (nI v).toInt64 ≤ (nI b).toInt64) ↔ (a ≤ v ∧ v ≤ b) := by
    rw [Int64.le_iff_toInt_le, Int64.le_iff_toInt_le, nI64 ha, nI64 hv, nI64 hb]
    omega
  by_cases h : a ≤ v ∧ v ≤ b
  · rw [if_pos (key.mpr h), decide_eq_true h]; rfl
  · rw [if_neg (fun q => h (key.mp q)), decide_eq_false h]; rfl
theorem askIx_s {fr to : Nat} {w : List Nat} {i : Nat} (h : i < 10) : askIx fr to w i (10 - i) = if (i < 2 ∨ fr ≤ i ∧ i ≤ to) ∧ cW (60 + i) = w then some i else askIx fr to w (i + 1) (10 - (i + 1)) := by
  obtain ⟨n, hn⟩ : ∃ n, 10 - i = n + 1 := ⟨9 - i, by omega⟩
  rw [hn, show 10 - (i + 1) = n by omega]
  rfl

set_option maxHeartbeats 4000000 in
set_option maxRecDepth 100000 in
theorem m_X5_part_n {l : Launch} {s0 : State} {D : va_G} (h0 : x0 l s0 D) (g : xG) {sc : Nat} {Z : Nat × Nat × Nat} {tx : List Nat} {A V B : Nat → Nat} {d0 fr to op N : Nat} (hE : PE g Z tx A V B) (hS : KS0 s0 A V B) (hz0 : xE0 s0 g d0) (hF : FR N g) {sn : Bool} {w : List Nat} {ts : List Tk} (hq : PSt g sc Z tx fr to op sn ((2, w) :: ts)) {F Lo : Nat} (hF0 : 12 ≤ F) (hLo : 500 ≤ Lo) : xMet l s0 D yX5_part cX5_part 2 (some (.object "KilnBench$Sum")) ((xr F 4 80 Lo)) [.ref sc] g (fPost g sc Z tx fr to op N false false (fun _ => (nI (sN w)).toInt64, 1, ts)) := by
  refine xMet.of h0 (by decide +kernel) rfl ?_
  intro zp ze zs zm za zb zf zc hC hr hnm
  obtain ⟨fs0, hc⟩ := hq.cell
  refine x_aloadr_n hC dX5_part_0 (q := 1) rfl rfl ?_
  refine x_callV hC xv_X5_86 dX5_part_1 (q := 4) rfl rfl (m_X5_see h0 g hE hq (cz := 2) (sz := 20) (sR_f (by decide) (by decide) _)) (nn := (60, 0)) hc rfl rfl (Nat.le_of_ble_eq_true rfl) ⟨(by (try dsimp only); omega), (by (try dsimp only); omega)⟩ ⟨(by (try dsimp only); omega), (by (try dsimp only); omega)⟩ (fun v g1 hp => ?_)
  obtain ⟨rfl, hx1, hs1⟩ := hp
  obtain ⟨at0, bd, pl, nb, sg, wd, hc, hat, hb1, hb2, hpl, htk⟩ := hs1.wh
  obtain ⟨q, -⟩ | ⟨t, ts1, q, h1, h2, h3⟩ := htk
  · cases q
  cases q
  obtain ⟨rfl, h4⟩ := h3.2.1 rfl
  have hF1 := hF.px hx1
  have hE1 := hE.px hx1
  refine x_iconst hC dX5_part_4 (q := 5) rfl (v := (2)) (by decide) ?_
  refine x_icmp_ne hC dX5_part_5 (q := 8) rfl (tgt := 24) rfl (fun h5 => ?_) (fun h5 => ?_)
  · exact absurd rfl h5
  refine x_new hC (fs := [.int 0]) (200, N) xc_7 q806 q807 q104 dX5_part_8 (q := 11) rfl rfl (hF1.1 N (Nat.le_refl _)) (fun j hj => by match j, hj with | 0, _ => rfl | j + 1, h => exact absurd h (by omega)) (by (try dsimp only); omega) (by (try dsimp only); omega) (fun a_8 => ?_)
  refine x_dup hC dX5_part_11 (q := 12) rfl rfl ?_
  refine x_aloadr_n hC dX5_part_12 (q := 13) rfl rfl ?_
  refine x_iconst hC dX5_part_13 (q := 14) rfl (v := (0)) (by decide) ?_
  refine x_sipush hC dX5_part_14 (q := 17) rfl (v := (9999)) (by decide) ?_
  refine x_callV hC xv_X5_208 dX5_part_17 (q := 20) rfl rfl (m_X5_number h0 _ (lo := 0) (hi := 9999) (hE1.pf (PF.r0.u (Nat.zero_le N) _)) (hs1.u _) (Nat.zero_le _) h4 (by decide) (cz := 0) (sz := 0) sR_t) (nn := (60, 0)) ((xu_ne (n_fst rfl)).trans hc) rfl rfl (Nat.le_of_ble_eq_true rfl) ⟨(by (try dsimp only); omega), (by (try dsimp only); omega)⟩ ⟨(by (try dsimp only); omega), (by (try dsimp only); omega)⟩ (fun v g1 hp => ?_)
  obtain ⟨rfl, hx2, hs2⟩ := hp
  refine x_callI hC xv_X5_211 dX5_part_20 (q := 23) rfl rfl (m_X10_init h0 _ (n := (200, N)) rfl (by rw [hx2 _ (n_fst rfl) (n_fst rfl) (n_fst rfl)]; exact xu_eq _ _ _)) rfl (Nat.le_of_ble_eq_true rfl) ⟨(by (try dsimp only); omega), (by (try dsimp only); omega)⟩ ⟨(by (try dsimp only); omega), (by (try dsimp only); omega)⟩ (fun v g1 hp => ?_)
  obtain ⟨rfl, hg1⟩ := hp
  replace hg1 := hg1.symm
  subst hg1
  exact x_aret hC hr (Or.inl ⟨_, rfl⟩) (Or.inr ⟨_, rfl⟩) dX5_part_23 (by (try dsimp only); omega) (by (try dsimp only); omega) ⟨_, N + 1, rfl, Nat.le_succ _, ((((PF.px hx1).u (Nat.le_refl _) _).trans (PF.px hx2) (Nat.le_refl _)).u (Nat.le_refl _) _), ((((hF1.le (Nat.le_succ N)).u (Nat.lt_succ_self N) _).px hx2).u (Nat.lt_succ_self N) _), hs2.u _, Or.inl ⟨(200, N), _, n40, (fW_at (Nat.le_refl _) (Nat.lt_succ_self _)).trans (xu_eq _ _ _), rfl⟩⟩

set_option maxHeartbeats 4000000 in
set_option maxRecDepth 100000 in
theorem m_X5_wordPart_k {l : Launch} {s0 : State} {D : va_G} (h0 : x0 l s0 D) (g : xG) {sc : Nat} {Z : Nat × Nat × Nat} {tx : List Nat} {A V B : Nat → Nat} {d0 fr to op N : Nat} (hE : PE g Z tx A V B) (hS : KS0 s0 A V B) (hz0 : xE0 s0 g d0) (hF : FR N g) {w : List Nat} {ts : List Tk} (hq : PSt g sc Z tx fr to op true ((1, w) :: ts)) (hfr : fr < 100) (hto : to < 100) {k : Nat} (hk : askIx fr to w 0 10 = some k) {F Lo : Nat} (hF0 : 12 ≤ F) (hLo : 500 ≤ Lo) : xMet l s0 D yX5_wordPart cX5_wordPart 4 (some (.object "KilnBench$Sum")) ((xr F 1 1 Lo)) [.ref sc] g (fPost g sc Z tx fr to op N false false (fun e => e k, 1, ts)) := by
  refine xMet.of h0 (by decide +kernel) rfl ?_
  intro zp ze zs zm za zb zf zc hC hr hnm
  obtain ⟨fs0, hc⟩ := hq.cell
  refine x_iconst hC dX5_wordPart_0 (q := 1) rfl (v := (0)) (by decide) ?_
  refine x_istore_n hC dX5_wordPart_1 (q := 2) rfl rfl ?_
  refine x_loop (S := (fun x : xG × Nat => ((0 : Nat), (0 : Nat), x.1, ([some (.ref sc), some (.int (nI x.2)), none, none] : xL), ([] : List Value)))) (Inv := fun x => PX g x.1 ∧ PSt x.1 sc Z tx fr to op true ((1, w) :: ts) ∧ x.2 ≤ 10 ∧ askIx fr to w x.2 (10 - x.2) = some k) (μ := fun x => 10 - x.2) ?_ (g, 0) ⟨PX.rfl, hq, Nat.zero_le _, hk⟩
  intro x hi ih
  obtain ⟨g1, i⟩ := x
  dsimp only at hi ih ⊢
  obtain ⟨hx1, hs1, hi10, hk1⟩ := hi
  have hE1 := hE.px hx1
  have hF1 := hF.px hx1
  obtain ⟨at0, bd, pl, nb, sg, wd, hc, hat, hb1, hb2, hpl, htk⟩ := hs1.wh
  refine x_iload_n hC dX5_wordPart_2 (q := 3) rfl rfl ?_
  refine x_gets hC ((hS.2 1 (by decide)).1) (Or.inr ⟨_, q820⟩) dX5_wordPart_3 (q := 6) rfl ?_
  refine x_alen hC dX5_wordPart_6 (q := 7) rfl (n := (1003, 1)) (hE1.2.2.2.2.a 1 rfl) ?_
  refine x_icmp_ge hC dX5_wordPart_7 (q := 10) rfl (tgt := 60) rfl (fun h7 => ?_) (fun h7 => ?_)
  · exact absurd hk1 (by
      have q := (nI_leI (by decide) (by omega)).mp (show nI 10 ≤ nI i from h7)
      rw [show i = 10 by omega]
      exact fun q => by cases q)
  have hj2 : i < 10 := Nat.lt_of_not_le (fun q => h7 (show nI 10 ≤ nI i from nI_le q (by omega)))
  rw [askIx_s hj2] at hk1
  have hb : Nat.blt (60 + i) 86 = true := Nat.ble_eq_true_of_le (by omega)
  refine x_iload_n hC dX5_wordPart_10 (q := 11) rfl rfl ?_
  refine x_iconst hC dX5_wordPart_11 (q := 12) rfl (v := (2)) (by decide) ?_
  refine x_icmp_lt hC dX5_wordPart_12 (q := 15) rfl (tgt := 33) rfl (fun h12 => ?_) (fun h12 => ?_)
  · have hin : i < 2 ∨ fr ≤ i ∧ i ≤ to := Or.inl ((nI_ltI (by omega) (by decide)).mp (show nI i < nI 2 from h12))
    refine x_aloadr_n hC dX5_wordPart_33 (q := 34) rfl rfl ?_
    refine x_gets hC ((hS.2 1 (by decide)).1) (Or.inr ⟨_, q820⟩) dX5_wordPart_34 (q := 37) rfl ?_
    refine x_iload_n hC dX5_wordPart_37 (q := 38) rfl rfl ?_
    refine x_aald hC dX5_wordPart_38 (q := 39) rfl (n := (1003, 1)) (hE1.2.2.2.2.a 1 rfl) (j := i) rfl hj2 (by decide) rfl ?_
    refine x_callV hC xv_X5_106 dX5_wordPart_39 (q := 42) rfl rfl (m_X5_takes h0 _ hS hE1 hs1 (60 + i) hb (cz := 0) (sz := 0) sR_t) (nn := (60, 0)) hc rfl rfl (Nat.le_of_ble_eq_true rfl) ⟨(by (try dsimp only); omega), (by (try dsimp only); omega)⟩ ⟨(by (try dsimp only); omega), (by (try dsimp only); omega)⟩ (fun v g2 hp => ?_)
    obtain ⟨rfl, hx2, hs2⟩ := hp
    have hx3 := hx1.trans hx2
    refine x_if_eq hC dX5_wordPart_42 (q := 45) rfl (tgt := 54) rfl (fun h42 => ?_) (fun h42 => ?_)
    · have hno : hdW ((1, w) :: ts) (cW (60 + i)) = false := by
        cases hbb : hdW ((1, w) :: ts) (cW (60 + i)) with
        | false => rfl
        | true => rw [hbb] at h42; exact absurd h42 (by decide)
      have hs3 : PSt g2 sc Z tx fr to op true ((1, w) :: ts) := by
        have q := hs2
        rw [hno] at q
        exact q
      rw [if_neg (fun q => by rw [q.2, hdW_c] at hno; cases hno)] at hk1
      refine x_iinc hC dX5_wordPart_54 (q := 57) rfl rfl (v := nI (i + 1)) (nI_1 i) ?_
      refine x_goto hC dX5_wordPart_57 (tgt := 2) rfl ?_
      first | exact ih (_, i + 1) ⟨hx3, hs3, by (try dsimp only); omega, hk1⟩ (by (try dsimp only); omega) | exact ih (_, i + 1) ⟨hx1, hs1, by (try dsimp only); omega, hk1⟩ (by (try dsimp only); omega)
    have hys : hdW ((1, w) :: ts) (cW (60 + i)) = true := by
      cases hbb : hdW ((1, w) :: ts) (cW (60 + i)) with
      | true => rfl
      | false => rw [hbb] at h42; exact absurd rfl h42
    have hwe : cW (60 + i) = w := by
      have q := hdW_is hys
      injection q with q1 _
      injection q1 with _ q2
      exact q2.symm
    rw [if_pos ⟨hin, hwe⟩] at hk1
    have hs3 : PSt g2 sc Z tx fr to op false ts := by
      have q := hs2
      rw [hys] at q
      exact q
    have hF3 := hF1.px hx2
    have hik : i = k := by injection hk1
    subst hik
    refine x_new hC (fs := [.int 0]) (200, N) xc_8 q822 q823 q105 dX5_wordPart_45 (q := 48) rfl rfl (hF3.1 N (Nat.le_refl _)) (fun j hj => by match j, hj with | 0, _ => rfl | j + 1, h => exact absurd h (by omega)) (by (try dsimp only); omega) (by (try dsimp only); omega) (fun a_45 => ?_)
    refine x_dup hC dX5_wordPart_48 (q := 49) rfl rfl ?_
    refine x_iload_n hC dX5_wordPart_49 (q := 50) rfl rfl ?_
    refine x_callI hC xv_X5_234 dX5_wordPart_50 (q := 53) rfl rfl (m_X11_init h0 _ (n := (200, N)) rfl (xu_eq _ _ _)) rfl (Nat.le_of_ble_eq_true rfl) ⟨(by (try dsimp only); omega), (by (try dsimp only); omega)⟩ ⟨(by (try dsimp only); omega), (by (try dsimp only); omega)⟩ (fun v g1 hp => ?_)
    obtain ⟨rfl, hg1⟩ := hp
    replace hg1 := hg1.symm
    subst hg1
    exact x_aret hC hr (Or.inl ⟨_, rfl⟩) (Or.inr ⟨_, rfl⟩) dX5_wordPart_53 (by (try dsimp only); omega) (by (try dsimp only); omega) ⟨_, N + 1, rfl, Nat.le_succ _, (((PF.px hx3).u (Nat.le_refl _) _).u (Nat.le_refl _) _), ((((hF3.le (Nat.le_succ N)).u (Nat.lt_succ_self N) _)).u (Nat.lt_succ_self N) _), (hs3.u _).u _, Or.inr (Or.inl ⟨(200, N), i, n40, (fW_at (Nat.le_refl _) (Nat.lt_succ_self _)).trans (xu_eq _ _ _), hj2, rfl⟩)⟩
  have hn2 : ¬ i < 2 := fun q => h12 (show nI i < nI 2 from nI_lt q (by decide))
  refine x_iload_n hC dX5_wordPart_15 (q := 16) rfl rfl ?_
  refine x_i2l hC dX5_wordPart_16 (q := 17) rfl ?_
  refine x_aloadr_n hC dX5_wordPart_17 (q := 18) rfl rfl ?_
  refine x_get hC xf_X5_228_4 dX5_wordPart_18 (q := 21) rfl (n := (60, 0)) hc rfl ?_
  refine x_i2l hC dX5_wordPart_21 (q := 22) rfl ?_
  refine x_aloadr_n hC dX5_wordPart_22 (q := 23) rfl rfl ?_
  refine x_get hC xf_X5_231_4 dX5_wordPart_23 (q := 26) rfl (n := (60, 0)) hc rfl ?_
  refine x_i2l hC dX5_wordPart_26 (q := 27) rfl ?_
  refine x_callSN hC xv_X5_108 dX5_wordPart_27 (q := 30) rfl rfl (m_X2_isIn h0 _ _ _ _) rfl (Nat.le_of_ble_eq_true rfl) ⟨(by (try dsimp only); omega), (by (try dsimp only); omega)⟩ ⟨(by (try dsimp only); omega), (by (try dsimp only); omega)⟩ (fun v g1 hp => ?_)
  rw [isInN (by omega) (by omega) (by omega)] at hp
  obtain ⟨rfl, hg1⟩ := hp
  replace hg1 := hg1.symm
  subst hg1
  refine x_if_eq hC dX5_wordPart_30 (q := 33) rfl (tgt := 54) rfl (fun h30 => ?_) (fun h30 => ?_)
  · have hout : ¬ (i < 2 ∨ fr ≤ i ∧ i ≤ to) := fun q => by
      rw [decide_eq_true (q.resolve_left hn2)] at h30
      exact absurd h30 (by decide)
    rw [if_neg (fun q => hout q.1)] at hk1
    refine x_iinc hC dX5_wordPart_54 (q := 57) rfl rfl (v := nI (i + 1)) (nI_1 i) ?_
    refine x_goto hC dX5_wordPart_57 (tgt := 2) rfl ?_
    first | exact ih (_, i + 1) ⟨hx3, hs3, by (try dsimp only); omega, hk1⟩ (by (try dsimp only); omega) | exact ih (_, i + 1) ⟨hx1, hs1, by (try dsimp only); omega, hk1⟩ (by (try dsimp only); omega)
  have hin : i < 2 ∨ fr ≤ i ∧ i ≤ to := Or.inr (by
    by_cases q : fr ≤ i ∧ i ≤ to
    · exact q
    · rw [decide_eq_false q] at h30
      exact absurd rfl h30)
  refine x_aloadr_n hC dX5_wordPart_33 (q := 34) rfl rfl ?_
  refine x_gets hC ((hS.2 1 (by decide)).1) (Or.inr ⟨_, q820⟩) dX5_wordPart_34 (q := 37) rfl ?_
  refine x_iload_n hC dX5_wordPart_37 (q := 38) rfl rfl ?_
  refine x_aald hC dX5_wordPart_38 (q := 39) rfl (n := (1003, 1)) (hE1.2.2.2.2.a 1 rfl) (j := i) rfl hj2 (by decide) rfl ?_
  refine x_callV hC xv_X5_106 dX5_wordPart_39 (q := 42) rfl rfl (m_X5_takes h0 _ hS hE1 hs1 (60 + i) hb (cz := 0) (sz := 0) sR_t) (nn := (60, 0)) hc rfl rfl (Nat.le_of_ble_eq_true rfl) ⟨(by (try dsimp only); omega), (by (try dsimp only); omega)⟩ ⟨(by (try dsimp only); omega), (by (try dsimp only); omega)⟩ (fun v g2 hp => ?_)
  obtain ⟨rfl, hx2, hs2⟩ := hp
  have hx3 := hx1.trans hx2
  refine x_if_eq hC dX5_wordPart_42 (q := 45) rfl (tgt := 54) rfl (fun h42 => ?_) (fun h42 => ?_)
  · have hno : hdW ((1, w) :: ts) (cW (60 + i)) = false := by
      cases hbb : hdW ((1, w) :: ts) (cW (60 + i)) with
      | false => rfl
      | true => rw [hbb] at h42; exact absurd h42 (by decide)
    have hs3 : PSt g2 sc Z tx fr to op true ((1, w) :: ts) := by
      have q := hs2
      rw [hno] at q
      exact q
    rw [if_neg (fun q => by rw [q.2, hdW_c] at hno; cases hno)] at hk1
    refine x_iinc hC dX5_wordPart_54 (q := 57) rfl rfl (v := nI (i + 1)) (nI_1 i) ?_
    refine x_goto hC dX5_wordPart_57 (tgt := 2) rfl ?_
    first | exact ih (_, i + 1) ⟨hx3, hs3, by (try dsimp only); omega, hk1⟩ (by (try dsimp only); omega) | exact ih (_, i + 1) ⟨hx1, hs1, by (try dsimp only); omega, hk1⟩ (by (try dsimp only); omega)
  have hys : hdW ((1, w) :: ts) (cW (60 + i)) = true := by
    cases hbb : hdW ((1, w) :: ts) (cW (60 + i)) with
    | true => rfl
    | false => rw [hbb] at h42; exact absurd rfl h42
  have hwe : cW (60 + i) = w := by
    have q := hdW_is hys
    injection q with q1 _
    injection q1 with _ q2
    exact q2.symm
  rw [if_pos ⟨hin, hwe⟩] at hk1
  have hs3 : PSt g2 sc Z tx fr to op false ts := by
    have q := hs2
    rw [hys] at q
    exact q
  have hF3 := hF1.px hx2
  have hik : i = k := by injection hk1
  subst hik
  refine x_new hC (fs := [.int 0]) (200, N) xc_8 q822 q823 q105 dX5_wordPart_45 (q := 48) rfl rfl (hF3.1 N (Nat.le_refl _)) (fun j hj => by match j, hj with | 0, _ => rfl | j + 1, h => exact absurd h (by omega)) (by (try dsimp only); omega) (by (try dsimp only); omega) (fun a_45 => ?_)
  refine x_dup hC dX5_wordPart_48 (q := 49) rfl rfl ?_
  refine x_iload_n hC dX5_wordPart_49 (q := 50) rfl rfl ?_
  refine x_callI hC xv_X5_234 dX5_wordPart_50 (q := 53) rfl rfl (m_X11_init h0 _ (n := (200, N)) rfl (xu_eq _ _ _)) rfl (Nat.le_of_ble_eq_true rfl) ⟨(by (try dsimp only); omega), (by (try dsimp only); omega)⟩ ⟨(by (try dsimp only); omega), (by (try dsimp only); omega)⟩ (fun v g1 hp => ?_)
  obtain ⟨rfl, hg1⟩ := hp
  replace hg1 := hg1.symm
  subst hg1
  exact x_aret hC hr (Or.inl ⟨_, rfl⟩) (Or.inr ⟨_, rfl⟩) dX5_wordPart_53 (by (try dsimp only); omega) (by (try dsimp only); omega) ⟨_, N + 1, rfl, Nat.le_succ _, (((PF.px hx3).u (Nat.le_refl _) _).u (Nat.le_refl _) _), ((((hF3.le (Nat.le_succ N)).u (Nat.lt_succ_self N) _)).u (Nat.lt_succ_self N) _), (hs3.u _).u _, Or.inr (Or.inl ⟨(200, N), i, n40, (fW_at (Nat.le_refl _) (Nat.lt_succ_self _)).trans (xu_eq _ _ _), hj2, rfl⟩)⟩

theorem aR_into {gz gg : xG} {N M lo hi d d' a : Nat} {b : Bool} {f : aEnv → Int64} (h : aR (fW lo hi gg) d b a f) (e1 : N ≤ lo) (e2 : hi ≤ M) (e3 : d ≤ d') (e4 : ∀ i, lo ≤ i → i < hi → gz (200, i) = gg (200, i)) : aR (fW N M gz) d' b a f := aR_up (aR_fW (by rw [fW_ext e4]; exact h) e1 e2) e3

set_option maxHeartbeats 4000000 in
set_option maxRecDepth 100000 in
theorem m_X5_chosen_ {l : Launch} {s0 : State} {D : va_G} (h0 : x0 l s0 D) {lv fr to F Lo : Nat} {S T : pP} (hPS : cP l s0 D yX5_sum_2 cX5_sum_2 4 "KilnBench$Sum" false true F Lo 6 lv fr to S) (hLS : pLen S) (hPT : cP l s0 D yX5_test cX5_test 3 "KilnBench$Test" true true F Lo 14 lv fr to T) (hLT : pLen T) (g : xG) {sc : Nat} {Z : Nat × Nat × Nat} {tx : List Nat} {A V B : Nat → Nat} {d0 op N : Nat} (hE : PE g Z tx A V B) (hS : KS0 s0 A V B) (hz : xE0 s0 g d0) (hF : FR N g) {sn : Bool} {t1 t3 t5 t7 : List Tk} {r0 r1 r2 : pR} (hq : PSt g sc Z tx fr to op sn ((3, [40]) :: t1)) (hop : op + (lv + 1) ≤ 7) (q1 : T t1 = some r0) (q2 : r0.2.2 = (3, [44]) :: t3) (q3 : S t3 = some r1) (q4 : r1.2.2 = (3, [44]) :: t5) (q5 : S t5 = some r2) (q6 : r2.2.2 = (3, [41]) :: t7) (hF9 : 12 ≤ F) (hLo : 500 ≤ Lo) : xMet l s0 D yX5_chosen cX5_chosen 4 (some (.object "KilnBench$Sum")) ((fRoom (F + 1) 0 (Lo + 30) ((3, [40]) :: t1) t7)) [.ref sc] g (fPost g sc Z tx fr to op N false false (fun e => if r0.1 e = 0 then r2.1 e else r1.1 e, max r0.2.1 (max r1.2.1 r2.2.1) + 1, t7)) := by
  refine xMet.of h0 (by decide +kernel) rfl ?_
  intro zp ze zs zm za zb zf zc hC hr hnm
  obtain ⟨fs0, hc0⟩ := hq.cell
  have hE0 := hE
  have hz0 := hz
  have hs0 := hq
  have hF0 := hF
  have l0 := hLT _ _ q1
  have l1 := hLS _ _ q3
  have l2 := hLS _ _ q5
  have e0 : (((3, [40]) :: t1 : List Tk)).length = t1.length + 1 := rfl
  have e2 : r0.2.2.length = t3.length + 1 := by rw [q2]; rfl
  have e4 : r1.2.2.length = t5.length + 1 := by rw [q4]; rfl
  have e6 : r2.2.2.length = t7.length + 1 := by rw [q6]; rfl
  refine x_aloadr_n hC dX5_chosen_0 (q := 1) rfl rfl ?_
  refine x_bipush hC dX5_chosen_1 (q := 3) rfl (v := (40)) (by decide) ?_
  refine x_callV hC xv_X5_163 dX5_chosen_3 (q := 6) rfl rfl (m_X5_opens h0 g (c := 40) (by decide) hE0 hs0 (by omega) (cz := 2) (sz := 20) (sR_f (by decide) (by decide) _)) (nn := (60, 0)) hc0 rfl rfl (Nat.le_of_ble_eq_true rfl) ⟨(by (try dsimp only); omega), (by (try dsimp only); omega)⟩ ⟨(by (try dsimp only); omega), (by (try dsimp only); omega)⟩ (fun v g1 hp => ?_)
  obtain ⟨rfl, hx1, hs1⟩ := hp
  have hE1 := hE0.px hx1
  have hz1 := hz0.pf (PF.px (N := 0) hx1)
  have hF1 := hF0.px hx1
  obtain ⟨fs1, hc1⟩ := hs1.cell
  refine x_aloadr_n hC dX5_chosen_6 (q := 7) rfl rfl ?_
  refine x_callV hC xv_X5_166 dX5_chosen_7 (q := 10) rfl rfl (hPT _ sc Z tx A V B d0 (op + 1) N _ _ _ hE1 hS hz1 hs1 hF1 (by omega) q1) (nn := (60, 0)) hc1 rfl rfl (Nat.le_of_ble_eq_true rfl) ⟨(by (try dsimp only); omega), (by (try dsimp only); omega)⟩ ⟨(by (try dsimp only); omega), (by (try dsimp only); omega)⟩ (fun v g1 hp => ?_)
  obtain ⟨a2, N2, rfl, hN2, hpf2, hF2, hs2, hR2⟩ := hp
  have hE2 := hE1.pf hpf2
  have hz2 := hz1.pf hpf2
  obtain ⟨fs2, hc2⟩ := hs2.cell
  rw [q2] at hs2
  refine x_astorer_n hC dX5_chosen_10 (q := 11) rfl rfl ?_
  refine x_aloadr_n hC dX5_chosen_11 (q := 12) rfl rfl ?_
  refine x_bipush hC dX5_chosen_12 (q := 14) rfl (v := (44)) (by decide) ?_
  refine x_callV hC xv_X5_122 dX5_chosen_14 (q := 17) rfl rfl (m_X5_asks_2 h0 _ (c := 44) (by decide) hE2 hs2 (cz := 0) (sz := 0) sR_t) (nn := (60, 0)) hc2 rfl rfl (Nat.le_of_ble_eq_true rfl) ⟨(by (try dsimp only); omega), (by (try dsimp only); omega)⟩ ⟨(by (try dsimp only); omega), (by (try dsimp only); omega)⟩ (fun v g1 hp => ?_)
  obtain ⟨rfl, hx3, hs3⟩ := hp
  have hE3 := hE2.px hx3
  have hz3 := hz2.pf (PF.px (N := 0) hx3)
  have hF3 := hF2.px hx3
  obtain ⟨fs3, hc3⟩ := hs3.cell
  refine x_aloadr_n hC dX5_chosen_17 (q := 18) rfl rfl ?_
  refine x_callV hC xv_X5_180 dX5_chosen_18 (q := 21) rfl rfl (hPS _ sc Z tx A V B d0 (op + 1) N2 _ _ _ hE3 hS hz3 hs3 hF3 (by omega) q3) (nn := (60, 0)) hc3 rfl rfl (Nat.le_of_ble_eq_true rfl) ⟨(by (try dsimp only); omega), (by (try dsimp only); omega)⟩ ⟨(by (try dsimp only); omega), (by (try dsimp only); omega)⟩ (fun v g1 hp => ?_)
  obtain ⟨a4, N4, rfl, hN4, hpf4, hF4, hs4, hR4⟩ := hp
  have hE4 := hE3.pf hpf4
  have hz4 := hz3.pf hpf4
  obtain ⟨fs4, hc4⟩ := hs4.cell
  rw [q4] at hs4
  refine x_astorer_n hC dX5_chosen_21 (q := 22) rfl rfl ?_
  refine x_aloadr_n hC dX5_chosen_22 (q := 23) rfl rfl ?_
  refine x_bipush hC dX5_chosen_23 (q := 25) rfl (v := (44)) (by decide) ?_
  refine x_callV hC xv_X5_122 dX5_chosen_25 (q := 28) rfl rfl (m_X5_asks_2 h0 _ (c := 44) (by decide) hE4 hs4 (cz := 0) (sz := 0) sR_t) (nn := (60, 0)) hc4 rfl rfl (Nat.le_of_ble_eq_true rfl) ⟨(by (try dsimp only); omega), (by (try dsimp only); omega)⟩ ⟨(by (try dsimp only); omega), (by (try dsimp only); omega)⟩ (fun v g1 hp => ?_)
  obtain ⟨rfl, hx5, hs5⟩ := hp
  have hE5 := hE4.px hx5
  have hz5 := hz4.pf (PF.px (N := 0) hx5)
  have hF5 := hF4.px hx5
  obtain ⟨fs5, hc5⟩ := hs5.cell
  refine x_aloadr_n hC dX5_chosen_28 (q := 29) rfl rfl ?_
  refine x_callV hC xv_X5_180 dX5_chosen_29 (q := 32) rfl rfl (hPS _ sc Z tx A V B d0 (op + 1) N4 _ _ _ hE5 hS hz5 hs5 hF5 (by omega) q5) (nn := (60, 0)) hc5 rfl rfl (Nat.le_of_ble_eq_true rfl) ⟨(by (try dsimp only); omega), (by (try dsimp only); omega)⟩ ⟨(by (try dsimp only); omega), (by (try dsimp only); omega)⟩ (fun v g1 hp => ?_)
  obtain ⟨a6, N6, rfl, hN6, hpf6, hF6, hs6, hR6⟩ := hp
  have hE6 := hE5.pf hpf6
  have hz6 := hz5.pf hpf6
  obtain ⟨fs6, hc6⟩ := hs6.cell
  rw [q6] at hs6
  refine x_astorer_n hC dX5_chosen_32 (q := 33) rfl rfl ?_
  refine x_aloadr_n hC dX5_chosen_33 (q := 34) rfl rfl ?_
  refine x_bipush hC dX5_chosen_34 (q := 36) rfl (v := (41)) (by decide) ?_
  refine x_callV hC xv_X5_169 dX5_chosen_36 (q := 39) rfl rfl (m_X5_closes h0 _ (c := 41) (by decide) hE6 hs6 (cz := 0) (sz := 0) sR_t) (nn := (60, 0)) hc6 rfl rfl (Nat.le_of_ble_eq_true rfl) ⟨(by (try dsimp only); omega), (by (try dsimp only); omega)⟩ ⟨(by (try dsimp only); omega), (by (try dsimp only); omega)⟩ (fun v g1 hp => ?_)
  obtain ⟨rfl, hx7, hs7⟩ := hp
  have hE7 := hE6.px hx7
  have hz7 := hz6.pf (PF.px (N := 0) hx7)
  have hF7 := hF6.px hx7
  obtain ⟨fs7, hc7⟩ := hs7.cell
  refine x_new hC (fs := [.null, .null, .null]) (200, N6) xc_13 q954 q955 q110 dX5_chosen_39 (q := 42) rfl rfl (hF7.1 N6 (Nat.le_refl _)) (fun j hj => by match j, hj with | 0, _ => rfl | 1, _ => rfl | 2, _ => rfl | j + 3, h => exact absurd h (by omega)) (by (try dsimp only); omega) (by (try dsimp only); omega) (fun a_39 => ?_)
  refine x_dup hC dX5_chosen_42 (q := 43) rfl rfl ?_
  refine x_aloadr_n hC dX5_chosen_43 (q := 44) rfl rfl ?_
  refine x_aloadr_n hC dX5_chosen_44 (q := 45) rfl rfl ?_
  refine x_aloadr_n hC dX5_chosen_45 (q := 46) rfl rfl ?_
  refine x_callI hC xv_X5_219 dX5_chosen_46 (q := 49) rfl rfl (m_X16_init h0 _ (n := (200, N6)) rfl (xu_eq _ _ _)) rfl (Nat.le_of_ble_eq_true rfl) ⟨(by (try dsimp only); omega), (by (try dsimp only); omega)⟩ ⟨(by (try dsimp only); omega), (by (try dsimp only); omega)⟩ (fun v g1 hp => ?_)
  obtain ⟨rfl, hg1⟩ := hp
  replace hg1 := hg1.symm
  subst hg1
  exact x_aret hC hr (Or.inl ⟨_, rfl⟩) (Or.inr ⟨_, rfl⟩) dX5_chosen_49 (by (try dsimp only); omega) (by (try dsimp only); omega) ⟨_, N6 + 1, rfl, by omega, (((((((((PF.px hx1).trans hpf2 (Nat.le_refl _)).trans (PF.px hx3) (Nat.le_refl _)).trans hpf4 hN2).trans (PF.px hx5) (Nat.le_refl _)).trans hpf6 (by omega)).trans (PF.px hx7) (Nat.le_refl _)).u (i := N6) (by omega) _).u (i := N6) (by omega) _), ((((hF7.le (Nat.le_succ N6)).u (Nat.lt_succ_self N6) _)).u (Nat.lt_succ_self N6) _), (hs7.u _).u _, Or.inr (Or.inr (Or.inr ⟨(200, N6), a2, a4, a6, r0.1, r1.1, r2.1, n40, (fW_at (by omega) (Nat.lt_succ_self _)).trans (xu_eq _ _ _), aR_into hR2 (Nat.le_refl _) (by omega) (by omega) (fun i e1 e2 => by rw [xu_ne (n_snd (by omega)), xu_ne (n_snd (by omega)), hx7 _ (n_fst rfl) (n_fst rfl) (n_fst rfl), hpf6.at (by omega), hx5 _ (n_fst rfl) (n_fst rfl) (n_fst rfl), hpf4.at (by omega), hx3 _ (n_fst rfl) (n_fst rfl) (n_fst rfl)]), aR_into hR4 hN2 (by omega) (by omega) (fun i e1 e2 => by rw [xu_ne (n_snd (by omega)), xu_ne (n_snd (by omega)), hx7 _ (n_fst rfl) (n_fst rfl) (n_fst rfl), hpf6.at (by omega), hx5 _ (n_fst rfl) (n_fst rfl) (n_fst rfl)]), aR_into hR6 (by omega) (by omega) (by omega) (fun i e1 e2 => by rw [xu_ne (n_snd (by omega)), xu_ne (n_snd (by omega)), hx7 _ (n_fst rfl) (n_fst rfl) (n_fst rfl)]), rfl⟩))⟩

theorem c_X5_chosen {l : Launch} {s0 : State} {D : va_G} (h0 : x0 l s0 D) {lv fr to F Lo : Nat} {S T : pP} (hPS : cP l s0 D yX5_sum_2 cX5_sum_2 4 "KilnBench$Sum" false true F Lo 6 lv fr to S) (hLS : pLen S) (hPT : cP l s0 D yX5_test cX5_test 3 "KilnBench$Test" true true F Lo 14 lv fr to T) (hLT : pLen T) (hF9 : 12 ≤ F) (hLo : 500 ≤ Lo) : cP l s0 D yX5_chosen cX5_chosen 4 "KilnBench$Sum" false false (F + 1) (Lo + 30) 0 (lv + 1) fr to (pChosen S T) := by
  intro g sc Z tx A V B d0 op N sn tk r hE hS hz hq hF hop hp
  obtain ⟨t1, t3, t5, t7, r0, r1, r2, rfl, q1, q2, q3, q4, q5, q6, rfl⟩ := pChosen_is hp
  exact m_X5_chosen_ h0 hPS hLS hPT hLT g hE hS hz hF hq hop q1 q2 q3 q4 q5 q6 hF9 hLo

set_option maxHeartbeats 4000000 in
set_option maxRecDepth 100000 in
theorem m_X5_wordPart_c {l : Launch} {s0 : State} {D : va_G} (h0 : x0 l s0 D) {lv fr to F Lo : Nat} {S T : pP} (hPC : cP l s0 D yX5_chosen cX5_chosen 4 "KilnBench$Sum" false false F Lo 0 lv fr to (pChosen S T)) (hLC : pLen (pChosen S T)) (g : xG) {sc : Nat} {Z : Nat × Nat × Nat} {tx : List Nat} {A V B : Nat → Nat} {d0 op N : Nat} (hE : PE g Z tx A V B) (hS : KS0 s0 A V B) (hz0 : xE0 s0 g d0) (hF : FR N g) {w : List Nat} {ts : List Tk} (hq : PSt g sc Z tx fr to op true ((1, w) :: ts)) (hfr : fr < 100) (hto : to < 100) (hk : askIx fr to w 0 10 = none) (hw : w = cW 7) {r0 : pR} (hp0 : pChosen S T ts = some r0) (hop : op + lv ≤ 7) (hF0 : 12 ≤ F) (hLo : 500 ≤ Lo) : xMet l s0 D yX5_wordPart cX5_wordPart 4 (some (.object "KilnBench$Sum")) ((fRoom (F + 1) 0 (Lo + 30) ts r0.2.2)) [.ref sc] g (fPost g sc Z tx fr to op N false false r0) := by
  refine xMet.of h0 (by decide +kernel) rfl ?_
  intro zp ze zs zm za zb zf zc hC hr hnm
  obtain ⟨fs0, hc⟩ := hq.cell
  refine x_iconst hC dX5_wordPart_0 (q := 1) rfl (v := (0)) (by decide) ?_
  refine x_istore_n hC dX5_wordPart_1 (q := 2) rfl rfl ?_
  refine x_loop (S := (fun x : xG × Nat => ((0 : Nat), (0 : Nat), x.1, ([some (.ref sc), some (.int (nI x.2)), none, none] : xL), ([] : List Value)))) (Inv := fun x => PX g x.1 ∧ PSt x.1 sc Z tx fr to op true ((1, w) :: ts) ∧ x.2 ≤ 10 ∧ askIx fr to w x.2 (10 - x.2) = none) (μ := fun x => 10 - x.2) ?_ (g, 0) ⟨PX.rfl, hq, Nat.zero_le _, hk⟩
  intro x hi ih
  obtain ⟨g1, i⟩ := x
  dsimp only at hi ih ⊢
  obtain ⟨hx1, hs1, hi10, hk1⟩ := hi
  have hE1 := hE.px hx1
  have hF1 := hF.px hx1
  obtain ⟨at0, bd, pl, nb, sg, wd, hc, hat, hb1, hb2, hpl, htk⟩ := hs1.wh
  refine x_iload_n hC dX5_wordPart_2 (q := 3) rfl rfl ?_
  refine x_gets hC ((hS.2 1 (by decide)).1) (Or.inr ⟨_, q820⟩) dX5_wordPart_3 (q := 6) rfl ?_
  refine x_alen hC dX5_wordPart_6 (q := 7) rfl (n := (1003, 1)) (hE1.2.2.2.2.a 1 rfl) ?_
  refine x_icmp_ge hC dX5_wordPart_7 (q := 10) rfl (tgt := 60) rfl (fun h7 => ?_) (fun h7 => ?_)
  · refine x_aloadr_n hC dX5_wordPart_60 (q := 61) rfl rfl ?_
    refine x_ldcS hC (xk_7 h0 hS) dX5_wordPart_61 (q := 63) rfl ?_
    refine x_callV hC xv_X5_106 dX5_wordPart_63 (q := 66) rfl rfl (m_X5_takes h0 _ hS hE1 hs1 7 rfl (cz := 0) (sz := 0) sR_t) (nn := (60, 0)) hc rfl rfl (Nat.le_of_ble_eq_true rfl) ⟨(by (try dsimp only); omega), (by (try dsimp only); omega)⟩ ⟨(by (try dsimp only); omega), (by (try dsimp only); omega)⟩ (fun v g2 hp => ?_)
    rw [hw, hdW_c] at hp
    obtain ⟨rfl, hx2, hs2⟩ := hp
    replace hs2 : PSt g2 sc Z tx fr to op false ts := hs2
    have hx3 := hx1.trans hx2
    obtain ⟨fs2, hc2⟩ := hs2.cell
    refine x_if_eq hC dX5_wordPart_66 (q := 69) rfl (tgt := 74) rfl (fun h66 => ?_) (fun h66 => ?_)
    · exact absurd h66 (by decide)
    refine x_aloadr_n hC dX5_wordPart_69 (q := 70) rfl rfl ?_
    refine x_callV hC xv_X5_237 dX5_wordPart_70 (q := 73) rfl rfl (hPC _ sc Z tx A V B d0 op N false ts r0 (hE.px hx3) hS (hz0.pf (PF.px (N := 0) hx3)) hs2 (hF.px hx3) hop hp0) (nn := (60, 0)) hc2 rfl rfl (Nat.le_of_ble_eq_true rfl) ⟨(by (try dsimp only); omega), (by (try dsimp only); omega)⟩ ⟨(by (try dsimp only); omega), (by (try dsimp only); omega)⟩ (fun v g1 hp => ?_)
    obtain ⟨a1, N1, rfl, hN1, hpf1, hF2, hs3, hR1⟩ := hp
    exact x_aret hC hr (Or.inl ⟨_, rfl⟩) (Or.inr ⟨_, rfl⟩) dX5_wordPart_73 (by (try dsimp only); omega) (by (try dsimp only); omega) ⟨a1, N1, rfl, hN1, (PF.px hx3).trans hpf1 (Nat.le_refl _), hF2, hs3, hR1⟩
  have hj2 : i < 10 := Nat.lt_of_not_le (fun q => h7 (show nI 10 ≤ nI i from nI_le q (by omega)))
  rw [askIx_s hj2] at hk1
  have hb : Nat.blt (60 + i) 86 = true := Nat.ble_eq_true_of_le (by omega)
  refine x_iload_n hC dX5_wordPart_10 (q := 11) rfl rfl ?_
  refine x_iconst hC dX5_wordPart_11 (q := 12) rfl (v := (2)) (by decide) ?_
  refine x_icmp_lt hC dX5_wordPart_12 (q := 15) rfl (tgt := 33) rfl (fun h12 => ?_) (fun h12 => ?_)
  · have hin : i < 2 ∨ fr ≤ i ∧ i ≤ to := Or.inl ((nI_ltI (by omega) (by decide)).mp (show nI i < nI 2 from h12))
    refine x_aloadr_n hC dX5_wordPart_33 (q := 34) rfl rfl ?_
    refine x_gets hC ((hS.2 1 (by decide)).1) (Or.inr ⟨_, q820⟩) dX5_wordPart_34 (q := 37) rfl ?_
    refine x_iload_n hC dX5_wordPart_37 (q := 38) rfl rfl ?_
    refine x_aald hC dX5_wordPart_38 (q := 39) rfl (n := (1003, 1)) (hE1.2.2.2.2.a 1 rfl) (j := i) rfl hj2 (by decide) rfl ?_
    refine x_callV hC xv_X5_106 dX5_wordPart_39 (q := 42) rfl rfl (m_X5_takes h0 _ hS hE1 hs1 (60 + i) hb (cz := 0) (sz := 0) sR_t) (nn := (60, 0)) hc rfl rfl (Nat.le_of_ble_eq_true rfl) ⟨(by (try dsimp only); omega), (by (try dsimp only); omega)⟩ ⟨(by (try dsimp only); omega), (by (try dsimp only); omega)⟩ (fun v g2 hp => ?_)
    obtain ⟨rfl, hx2, hs2⟩ := hp
    have hx3 := hx1.trans hx2
    refine x_if_eq hC dX5_wordPart_42 (q := 45) rfl (tgt := 54) rfl (fun h42 => ?_) (fun h42 => ?_)
    · have hno : hdW ((1, w) :: ts) (cW (60 + i)) = false := by
        cases hbb : hdW ((1, w) :: ts) (cW (60 + i)) with
        | false => rfl
        | true => rw [hbb] at h42; exact absurd h42 (by decide)
      have hs3 : PSt g2 sc Z tx fr to op true ((1, w) :: ts) := by
        have q := hs2
        rw [hno] at q
        exact q
      rw [if_neg (fun q => by rw [q.2, hdW_c] at hno; cases hno)] at hk1
      refine x_iinc hC dX5_wordPart_54 (q := 57) rfl rfl (v := nI (i + 1)) (nI_1 i) ?_
      refine x_goto hC dX5_wordPart_57 (tgt := 2) rfl ?_
      first | exact ih (_, i + 1) ⟨hx3, hs3, by (try dsimp only); omega, hk1⟩ (by (try dsimp only); omega) | exact ih (_, i + 1) ⟨hx1, hs1, by (try dsimp only); omega, hk1⟩ (by (try dsimp only); omega)
    have hys : hdW ((1, w) :: ts) (cW (60 + i)) = true := by
      cases hbb : hdW ((1, w) :: ts) (cW (60 + i)) with
      | true => rfl
      | false => rw [hbb] at h42; exact absurd rfl h42
    have hwe : cW (60 + i) = w := by
      have q := hdW_is hys
      injection q with q1 _
      injection q1 with _ q2
      exact q2.symm
    rw [if_pos ⟨hin, hwe⟩] at hk1
    have hs3 : PSt g2 sc Z tx fr to op false ts := by
      have q := hs2
      rw [hys] at q
      exact q
    have hF3 := hF1.px hx2
    cases hk1
  have hn2 : ¬ i < 2 := fun q => h12 (show nI i < nI 2 from nI_lt q (by decide))
  refine x_iload_n hC dX5_wordPart_15 (q := 16) rfl rfl ?_
  refine x_i2l hC dX5_wordPart_16 (q := 17) rfl ?_
  refine x_aloadr_n hC dX5_wordPart_17 (q := 18) rfl rfl ?_
  refine x_get hC xf_X5_228_4 dX5_wordPart_18 (q := 21) rfl (n := (60, 0)) hc rfl ?_
  refine x_i2l hC dX5_wordPart_21 (q := 22) rfl ?_
  refine x_aloadr_n hC dX5_wordPart_22 (q := 23) rfl rfl ?_
  refine x_get hC xf_X5_231_4 dX5_wordPart_23 (q := 26) rfl (n := (60, 0)) hc rfl ?_
  refine x_i2l hC dX5_wordPart_26 (q := 27) rfl ?_
  refine x_callSN hC xv_X5_108 dX5_wordPart_27 (q := 30) rfl rfl (m_X2_isIn h0 _ _ _ _) rfl (Nat.le_of_ble_eq_true rfl) ⟨(by (try dsimp only); omega), (by (try dsimp only); omega)⟩ ⟨(by (try dsimp only); omega), (by (try dsimp only); omega)⟩ (fun v g1 hp => ?_)
  rw [isInN (by omega) (by omega) (by omega)] at hp
  obtain ⟨rfl, hg1⟩ := hp
  replace hg1 := hg1.symm
  subst hg1
  refine x_if_eq hC dX5_wordPart_30 (q := 33) rfl (tgt := 54) rfl (fun h30 => ?_) (fun h30 => ?_)
  · have hout : ¬ (i < 2 ∨ fr ≤ i ∧ i ≤ to) := fun q => by
      rw [decide_eq_true (q.resolve_left hn2)] at h30
      exact absurd h30 (by decide)
    rw [if_neg (fun q => hout q.1)] at hk1
    refine x_iinc hC dX5_wordPart_54 (q := 57) rfl rfl (v := nI (i + 1)) (nI_1 i) ?_
    refine x_goto hC dX5_wordPart_57 (tgt := 2) rfl ?_
    first | exact ih (_, i + 1) ⟨hx3, hs3, by (try dsimp only); omega, hk1⟩ (by (try dsimp only); omega) | exact ih (_, i + 1) ⟨hx1, hs1, by (try dsimp only); omega, hk1⟩ (by (try dsimp only); omega)
  have hin : i < 2 ∨ fr ≤ i ∧ i ≤ to := Or.inr (by
    by_cases q : fr ≤ i ∧ i ≤ to
    · exact q
    · rw [decide_eq_false q] at h30
      exact absurd rfl h30)
  refine x_aloadr_n hC dX5_wordPart_33 (q := 34) rfl rfl ?_
  refine x_gets hC ((hS.2 1 (by decide)).1) (Or.inr ⟨_, q820⟩) dX5_wordPart_34 (q := 37) rfl ?_
  refine x_iload_n hC dX5_wordPart_37 (q := 38) rfl rfl ?_
  refine x_aald hC dX5_wordPart_38 (q := 39) rfl (n := (1003, 1)) (hE1.2.2.2.2.a 1 rfl) (j := i) rfl hj2 (by decide) rfl ?_
  refine x_callV hC xv_X5_106 dX5_wordPart_39 (q := 42) rfl rfl (m_X5_takes h0 _ hS hE1 hs1 (60 + i) hb (cz := 0) (sz := 0) sR_t) (nn := (60, 0)) hc rfl rfl (Nat.le_of_ble_eq_true rfl) ⟨(by (try dsimp only); omega), (by (try dsimp only); omega)⟩ ⟨(by (try dsimp only); omega), (by (try dsimp only); omega)⟩ (fun v g2 hp => ?_)
  obtain ⟨rfl, hx2, hs2⟩ := hp
  have hx3 := hx1.trans hx2
  refine x_if_eq hC dX5_wordPart_42 (q := 45) rfl (tgt := 54) rfl (fun h42 => ?_) (fun h42 => ?_)
  · have hno : hdW ((1, w) :: ts) (cW (60 + i)) = false := by
      cases hbb : hdW ((1, w) :: ts) (cW (60 + i)) with
      | false => rfl
      | true => rw [hbb] at h42; exact absurd h42 (by decide)
    have hs3 : PSt g2 sc Z tx fr to op true ((1, w) :: ts) := by
      have q := hs2
      rw [hno] at q
      exact q
    rw [if_neg (fun q => by rw [q.2, hdW_c] at hno; cases hno)] at hk1
    refine x_iinc hC dX5_wordPart_54 (q := 57) rfl rfl (v := nI (i + 1)) (nI_1 i) ?_
    refine x_goto hC dX5_wordPart_57 (tgt := 2) rfl ?_
    first | exact ih (_, i + 1) ⟨hx3, hs3, by (try dsimp only); omega, hk1⟩ (by (try dsimp only); omega) | exact ih (_, i + 1) ⟨hx1, hs1, by (try dsimp only); omega, hk1⟩ (by (try dsimp only); omega)
  have hys : hdW ((1, w) :: ts) (cW (60 + i)) = true := by
    cases hbb : hdW ((1, w) :: ts) (cW (60 + i)) with
    | true => rfl
    | false => rw [hbb] at h42; exact absurd rfl h42
  have hwe : cW (60 + i) = w := by
    have q := hdW_is hys
    injection q with q1 _
    injection q1 with _ q2
    exact q2.symm
  rw [if_pos ⟨hin, hwe⟩] at hk1
  have hs3 : PSt g2 sc Z tx fr to op false ts := by
    have q := hs2
    rw [hys] at q
    exact q
  have hF3 := hF1.px hx2
  cases hk1

theorem pLen_Chosen {S T : pP} (hS : pLen S) (hT : pLen T) : pLen (pChosen S T) := by
  intro tk r h
  obtain ⟨t1, t3, t5, t7, r0, r1, r2, rfl, q1, q2, q3, q4, q5, q6, rfl⟩ := pChosen_is h
  have a1 := hT _ _ q1
  have a2 := hS _ _ q3
  have a3 := hS _ _ q5
  rw [q2] at a1; rw [q4] at a2; rw [q6] at a3
  simp only [List.length_cons] at *
  omega

set_option maxHeartbeats 4000000 in
set_option maxRecDepth 100000 in
theorem m_X5_part_w {l : Launch} {s0 : State} {D : va_G} (h0 : x0 l s0 D) (g : xG) {sc : Nat} {Z : Nat × Nat × Nat} {tx : List Nat} {A V B : Nat → Nat} {d0 fr to op N : Nat} (hE : PE g Z tx A V B) (hS : KS0 s0 A V B) (hz0 : xE0 s0 g d0) (hF : FR N g) {sn : Bool} {w : List Nat} {ts : List Tk} {F Lo kc ks : Nat} {r0 : pR} (hq : PSt g sc Z tx fr to op sn ((1, w) :: ts)) (hW : ∀ g1 : xG, PE g1 Z tx A V B → FR N g1 → xE0 s0 g1 d0 → PSt g1 sc Z tx fr to op true ((1, w) :: ts) → xMet l s0 D yX5_wordPart cX5_wordPart 4 (some (.object "KilnBench$Sum")) (xr F kc ks Lo) [.ref sc] g1 (fPost g1 sc Z tx fr to op N false false r0)) (hF0 : 12 ≤ F) (hLo : 500 ≤ Lo) : xMet l s0 D yX5_part cX5_part 2 (some (.object "KilnBench$Sum")) ((xr (F + 1) (kc + 2) (ks + 20) (Lo + 30))) [.ref sc] g (fPost g sc Z tx fr to op N false false r0) := by
  refine xMet.of h0 (by decide +kernel) rfl ?_
  intro zp ze zs zm za zb zf zc hC hr hnm
  obtain ⟨fs0, hc⟩ := hq.cell
  refine x_aloadr_n hC dX5_part_0 (q := 1) rfl rfl ?_
  refine x_callV hC xv_X5_86 dX5_part_1 (q := 4) rfl rfl (m_X5_see h0 g hE hq (cz := 2) (sz := 20) (sR_f (by decide) (by decide) _)) (nn := (60, 0)) hc rfl rfl (Nat.le_of_ble_eq_true rfl) ⟨(by (try dsimp only); omega), (by (try dsimp only); omega)⟩ ⟨(by (try dsimp only); omega), (by (try dsimp only); omega)⟩ (fun v g1 hp => ?_)
  obtain ⟨rfl, hx1, hs1⟩ := hp
  obtain ⟨at0, bd, pl, nb, sg, wd, hc, hat, hb1, hb2, hpl, htk⟩ := hs1.wh
  have hF1 := hF.px hx1
  have hE1 := hE.px hx1
  refine x_iconst hC dX5_part_4 (q := 5) rfl (v := (2)) (by decide) ?_
  refine x_icmp_ne hC dX5_part_5 (q := 8) rfl (tgt := 24) rfl (fun h5 => ?_) (fun h5 => ?_)
  · refine x_aloadr_n hC dX5_part_24 (q := 25) rfl rfl ?_
    refine x_get hC xf_X5_33_4 dX5_part_25 (q := 28) rfl (n := (60, 0)) hc rfl ?_
    refine x_iconst hC dX5_part_28 (q := 29) rfl (v := (1)) (by decide) ?_
    refine x_icmp_ne hC dX5_part_29 (q := 32) rfl (tgt := 37) rfl (fun h29 => ?_) (fun h29 => ?_)
    · exact absurd rfl h29
    skip
    refine x_aloadr_n hC dX5_part_32 (q := 33) rfl rfl ?_
    refine x_callV hC xv_X5_214 dX5_part_33 (q := 36) rfl rfl (hW _ (hE.px hx1) (hF.px hx1) (hz0.pf (PF.px (N := 0) hx1)) hs1) (nn := (60, 0)) hc rfl rfl (Nat.le_of_ble_eq_true rfl) ⟨(by (try dsimp only); omega), (by (try dsimp only); omega)⟩ ⟨(by (try dsimp only); omega), (by (try dsimp only); omega)⟩ (fun v g1 hp => ?_)
    obtain ⟨a1, N1, rfl, hN1, hpf1, hF2, hs2, hR1⟩ := hp
    exact x_aret hC hr (Or.inl ⟨_, rfl⟩) (Or.inr ⟨_, rfl⟩) dX5_part_36 (by (try dsimp only); omega) (by (try dsimp only); omega) ⟨a1, N1, rfl, hN1, (PF.px hx1).trans hpf1 (Nat.le_refl _), hF2, hs2, hR1⟩
  · exact absurd (show nI 1 = 2 from h5) (by decide)

set_option maxHeartbeats 4000000 in
set_option maxRecDepth 100000 in
theorem m_X5_part_s {l : Launch} {s0 : State} {D : va_G} (h0 : x0 l s0 D) {lv fr to F Lo : Nat} {S : pP} (hPS : cP l s0 D yX5_sum_2 cX5_sum_2 4 "KilnBench$Sum" false true F Lo 6 lv fr to S) (hLS : pLen S) (g : xG) {sc : Nat} {Z : Nat × Nat × Nat} {tx : List Nat} {A V B : Nat → Nat} {d0 op N : Nat} (hE : PE g Z tx A V B) (hS : KS0 s0 A V B) (hz : xE0 s0 g d0) (hF : FR N g) {sn : Bool} {t1 t3 : List Tk} {r1 : pR} (hq : PSt g sc Z tx fr to op sn ((3, [40]) :: t1)) (hop : op + (lv + 1) ≤ 7) (q1 : S t1 = some r1) (q2 : r1.2.2 = (3, [41]) :: t3) (hF9 : 12 ≤ F) (hLo : 500 ≤ Lo) : xMet l s0 D yX5_part cX5_part 2 (some (.object "KilnBench$Sum")) ((fRoom (F + 1) 4 (Lo + 30) ((3, [40]) :: t1) t3)) [.ref sc] g (fPost g sc Z tx fr to op N false false (r1.1, r1.2.1, t3)) := by
  refine xMet.of h0 (by decide +kernel) rfl ?_
  intro zp ze zs zm za zb zf zc hC hr hnm
  obtain ⟨fs0, hc0⟩ := hq.cell
  have hE0 := hE
  have hz0 := hz
  have hs0 := hq
  have hF0 := hF
  have l0 := hLS _ _ q1
  have e0 : (((3, [40]) :: t1 : List Tk)).length = t1.length + 1 := rfl
  have e2 : r1.2.2.length = t3.length + 1 := by rw [q2]; rfl
  refine x_aloadr_n hC dX5_part_0 (q := 1) rfl rfl ?_
  refine x_callV hC xv_X5_86 dX5_part_1 (q := 4) rfl rfl (m_X5_see h0 g hE0 hs0 (cz := 2) (sz := 20) (sR_f (by decide) (by decide) _)) (nn := (60, 0)) hc0 rfl rfl (Nat.le_of_ble_eq_true rfl) ⟨(by (try dsimp only); omega), (by (try dsimp only); omega)⟩ ⟨(by (try dsimp only); omega), (by (try dsimp only); omega)⟩ (fun v g1 hp => ?_)
  obtain ⟨rfl, hx1, hs1⟩ := hp
  have hE1 := hE0.px hx1
  have hz1 := hz0.pf (PF.px (N := 0) hx1)
  have hF1 := hF0.px hx1
  obtain ⟨fs1, hc1⟩ := hs1.cell
  refine x_iconst hC dX5_part_4 (q := 5) rfl (v := (2)) (by decide) ?_
  refine x_icmp_ne hC dX5_part_5 (q := 8) rfl (tgt := 24) rfl (fun h5 => ?_) (fun h5 => ?_)
  · obtain ⟨at0, bd, pl, nb, sg, wd, hc, hat, hb1, hb2, hpl, htk⟩ := hs1.wh
    refine x_aloadr_n hC dX5_part_24 (q := 25) rfl rfl ?_
    refine x_get hC xf_X5_33_4 dX5_part_25 (q := 28) rfl (n := (60, 0)) hc rfl ?_
    refine x_iconst hC dX5_part_28 (q := 29) rfl (v := (1)) (by decide) ?_
    refine x_icmp_ne hC dX5_part_29 (q := 32) rfl (tgt := 37) rfl (fun h29 => ?_) (fun h29 => ?_)
    · refine x_aloadr_n hC dX5_part_37 (q := 38) rfl rfl ?_
      refine x_bipush hC dX5_part_38 (q := 40) rfl (v := (40)) (by decide) ?_
      refine x_callV hC xv_X5_163 dX5_part_40 (q := 43) rfl rfl (m_X5_opens h0 _ (c := 40) (by decide) hE1 hs1 (by omega) (cz := 0) (sz := 0) sR_t) (nn := (60, 0)) hc1 rfl rfl (Nat.le_of_ble_eq_true rfl) ⟨(by (try dsimp only); omega), (by (try dsimp only); omega)⟩ ⟨(by (try dsimp only); omega), (by (try dsimp only); omega)⟩ (fun v g1 hp => ?_)
      obtain ⟨rfl, hx2, hs2⟩ := hp
      have hE2 := hE1.px hx2
      have hz2 := hz1.pf (PF.px (N := 0) hx2)
      have hF2 := hF1.px hx2
      obtain ⟨fs2, hc2⟩ := hs2.cell
      refine x_aloadr_n hC dX5_part_43 (q := 44) rfl rfl ?_
      refine x_callV hC xv_X5_180 dX5_part_44 (q := 47) rfl rfl (hPS _ sc Z tx A V B d0 (op + 1) N _ _ _ hE2 hS hz2 hs2 hF2 (by omega) q1) (nn := (60, 0)) hc2 rfl rfl (Nat.le_of_ble_eq_true rfl) ⟨(by (try dsimp only); omega), (by (try dsimp only); omega)⟩ ⟨(by (try dsimp only); omega), (by (try dsimp only); omega)⟩ (fun v g1 hp => ?_)
      obtain ⟨a3, N3, rfl, hN3, hpf3, hF3, hs3, hR3⟩ := hp
      have hE3 := hE2.pf hpf3
      have hz3 := hz2.pf hpf3
      obtain ⟨fs3, hc3⟩ := hs3.cell
      rw [q2] at hs3
      refine x_astorer_n hC dX5_part_47 (q := 48) rfl rfl ?_
      refine x_aloadr_n hC dX5_part_48 (q := 49) rfl rfl ?_
      refine x_bipush hC dX5_part_49 (q := 51) rfl (v := (41)) (by decide) ?_
      refine x_callV hC xv_X5_169 dX5_part_51 (q := 54) rfl rfl (m_X5_closes h0 _ (c := 41) (by decide) hE3 hs3 (cz := 0) (sz := 0) sR_t) (nn := (60, 0)) hc3 rfl rfl (Nat.le_of_ble_eq_true rfl) ⟨(by (try dsimp only); omega), (by (try dsimp only); omega)⟩ ⟨(by (try dsimp only); omega), (by (try dsimp only); omega)⟩ (fun v g1 hp => ?_)
      obtain ⟨rfl, hx4, hs4⟩ := hp
      have hE4 := hE3.px hx4
      have hz4 := hz3.pf (PF.px (N := 0) hx4)
      have hF4 := hF3.px hx4
      obtain ⟨fs4, hc4⟩ := hs4.cell
      refine x_aloadr_n hC dX5_part_54 (q := 55) rfl rfl ?_
      exact x_aret hC hr (Or.inl ⟨_, rfl⟩) (Or.inr ⟨_, rfl⟩) dX5_part_55 (by (try dsimp only); omega) (by (try dsimp only); omega) ⟨a3, N3, rfl, hN3, (((PF.px hx1).trans (PF.px hx2) (Nat.le_refl _)).trans hpf3 (Nat.le_refl _)).trans (PF.px hx4) hN3, hF4, hs4, aR_into hR3 (Nat.le_refl _) (Nat.le_refl _) (Nat.le_refl _) (fun i e1 e2 => by rw [hx4 _ (n_fst rfl) (n_fst rfl) (n_fst rfl)])⟩
    · exact absurd (show nI 3 = 1 from h29) (by decide)
  · exact absurd (show nI 3 = 2 from h5) (by decide)

theorem c_X5_part {l : Launch} {s0 : State} {D : va_G} (h0 : x0 l s0 D) {lv fr to F Lo : Nat} {S T : pP} (hPS : cP l s0 D yX5_sum_2 cX5_sum_2 4 "KilnBench$Sum" false true F Lo 6 lv fr to S) (hLS : pLen S) (hPT : cP l s0 D yX5_test cX5_test 3 "KilnBench$Test" true true F Lo 14 lv fr to T) (hLT : pLen T) (hfr : fr < 100) (hto : to < 100) (hF9 : 12 ≤ F) (hLo : 500 ≤ Lo) : cP l s0 D yX5_part cX5_part 2 "KilnBench$Sum" false false (F + 3) (Lo + 90) 4 (lv + 1) fr to (pPart fr to S T) := by
  intro g sc Z tx A V B d0 op N sn tk r hE hS hz hq hF hop hp
  have hlen := pLen_Part (fr := fr) (to := to) hLS hLT _ _ hp
  rcases pPart_is hp with ⟨w, ts, rfl, rfl⟩ | ⟨w, ts, rfl, h2⟩ | ⟨t1, t3, r1, rfl, h2, h3, rfl⟩
  · exact (m_X5_part_n h0 g hE hS hz hF hq hF9 hLo).room (by show F ≤ F + 3; omega) (by show 4 ≤ _ + 4; omega) (by show 80 ≤ _ + 80; omega) (by show Lo ≤ Lo + 90; omega)
  · rcases pWord_is h2 with ⟨k, hk, rfl⟩ | ⟨hk, hw, h3⟩
    · exact (m_X5_part_w h0 g hE hS hz hF (F := F) (Lo := Lo) (kc := 1) (ks := 1) hq (fun g1 a1 a2 a3 a4 => m_X5_wordPart_k h0 g1 a1 hS a3 a2 a4 hfr hto hk hF9 hLo) hF9 hLo).room (by show F + 1 ≤ F + 3; omega) (by show 3 ≤ _ + 4; omega) (by show 21 ≤ _ + 80; omega) (by show Lo + 30 ≤ Lo + 90; omega)
    · have hl2 := pLen_Chosen hLS hLT _ _ h3
      exact (m_X5_part_w h0 g hE hS hz hF (F := F + 2) (Lo := Lo + 60) (kc := 20 * (ts.length - r.2.2.length - 1)) (ks := 5000 * (ts.length - r.2.2.length - 1)) hq (fun g1 a1 a2 a3 a4 => m_X5_wordPart_c h0 (c_X5_chosen h0 hPS hLS hPT hLT hF9 hLo) (pLen_Chosen hLS hLT) g1 a1 hS a3 a2 a4 hfr hto hk hw h3 hop (by omega) (by omega)) (by omega) (by omega)).room (by show F + 2 + 1 ≤ F + 3; omega) (by show _ + 2 ≤ 20 * (((1, w) :: ts).length - _ - 1) + 4; rw [List.length_cons]; omega) (by show _ + 20 ≤ 5000 * (((1, w) :: ts).length - _ - 1) + 80; rw [List.length_cons]; omega) (by show Lo + 60 + 30 ≤ Lo + 90; omega)
  · exact (m_X5_part_s h0 hPS hLS g hE hS hz hF hq hop h2 h3 hF9 hLo).room (by show F + 1 ≤ F + 3; omega) (Nat.le_refl _) (Nat.le_refl _) (by show Lo + 30 ≤ Lo + 90; omega)
