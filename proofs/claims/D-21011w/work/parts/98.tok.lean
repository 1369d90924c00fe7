/-! the scanner's tokens: seen, asked for, taken -/
section XLW
variable {p : Program} {l : Launch} {e : Env} {R : Room} {s : State} {m : MethodId} {args : Array Value} {below : List Frame} {meth : Method} {c : Code} {s0 : State} {D : va_G} {Q : State → Prop} {cells slots : Nat} {g : xG} {own : String} {cc : ByteArray} {pc q : Nat} {lv : xL} {st : List Value} {H : Heap} {locs : List Loc} {ls : Array Slot}
theorem vx_ldcwS {T : State} (X : Stand p l e R s m args below meth c T locs cells slots) (hexec : p.tables.exec = Jvm.exec) {own text : String} {index : Nat} {a : Addr} (hown : s.vm.findClass own = some m.cls)
    (hconst : (Cond.stringRef own index text).before args s = true) (hev : (Term.string own index).eval args s none [] s = some (.ref a)) {g : JFrame} (hg : g.method = m) (hdg : decode c.code g.pc = .ok (.ldc_w index, 3)) :
    ∀ target, Steps p.tables e below (T.setTop { g with pc := g.pc + 3, stack := .ref a :: g.stack }) target → Steps p.tables e below (T.setTop g) target := by
  obtain ⟨k, cf, i, a', hk, hcf, hcp, -, hr, hev'⟩ := Cond.stringRef_spec hown hconst
  cases hev.symm.trans hev'
  obtain ⟨k', hk', he⟩ := X.warmed.alike.2.2 _ _ hk
  have hr' : k'.resolved[index]? = some (some (.string a)) := by
    rcases X.warmed.entry hk hk' index with h | ⟨h, -⟩
    · rw [h]; exact hr
    · rw [hr] at h; cases h
  intro target hrest
  subst hg
  jvm_step X.here [hexec, hdg, ldc_w.wp_string (e := e) (s := T) (f := g) X.here.top hk' (by rw [he]; exact hcf) hcp hr']
  exact hrest
theorem x_ldcwS (hC : xC p l s0 s D m args meth c own cc) {idx a : Nat} {tx : String} (hz : vk_R own idx tx a s0) (d : decode cc pc = .ok (.ldc_w idx, 3)) (hq : pc + 3 = q) (k : XW p l e R s m args below meth c s0 D Q cells slots g q lv (.ref a :: st)) : XW p l e R s m args below meth c s0 D Q cells slots g pc lv st := by
  subst hq; intro H locs ls hm hI hS hl
  have hz1 := vk_R.warm hC.warm hz
  intro T hT X
  obtain ⟨t, a1, b1⟩ := k H locs ls hm hI hS hl T hT X
  exact ⟨t, vx_ldcwS X hC.1 hC.2.2.1 (text := tx) (a := a) hz1.1 hz1.2 (g := F0 m pc ls st) rfl (by rw [hC.2.1]; exact d) t a1, b1⟩
end XLW
def b01 (b : Bool) : Int32 := if b then 1 else 0
def hdS (tk : List Tk) (c : Nat) : Bool := decide (tk.headD (0, []) = (3, [c]))
def hdW (tk : List Tk) (w : List Nat) : Bool := decide (tk.headD (0, []) = (1, w))
/-- the rest behind the first token, if it is taken -/
def tkT (b : Bool) (tk : List Tk) : List Tk := if b then tk.tail else tk
/-- room for a token's letters, if none is in hand -/
def sR (sn : Bool) (cz sz : Nat) : Prop := sn = false → 2 ≤ cz ∧ 20 ≤ sz
theorem sR_t {cz sz : Nat} : sR true cz sz := fun q => by cases q
theorem sR_f {cz sz : Nat} (h1 : 2 ≤ cz) (h2 : 20 ≤ sz) (sn : Bool) : sR sn cz sz := fun _ => ⟨h1, h2⟩

theorem m_X5_see_f {l : Launch} {s0 : State} {D : va_G} (h0 : x0 l s0 D) (g : xG) {sc : Nat} {Z : Nat × Nat × Nat} {tx : List Nat} {A V B : Nat → Nat} (hE : PE g Z tx A V B) {fr to op : Nat} {tk : List Tk} (hq : PSt g sc Z tx fr to op false tk)  : xMet l s0 D yX5_see cX5_see 4 (some .int) (xr 6 2 20 200) [.ref sc] g (fun r g1 => r = some (.int (nI (hdk tk))) ∧ PX g g1 ∧ PSt g1 sc Z tx fr to op true tk) := by
  obtain ⟨at0, bd, pl, nb, wh, sg, wd, hc, hat, hb1, hb2, hpl, ⟨-, hlx⟩ | ⟨q, -⟩ | ⟨t, ts, q, -⟩⟩ := hq
  · cases tk with
    | nil =>
      refine ((m_X5_see_e h0 g hE (sp := tx.drop at0) hc hat rfl hlx).room (Nat.zero_le _) (Nat.zero_le _) (Nat.zero_le _) (Nat.zero_le _)).post ?_
      rintro r g1 ⟨rfl, rfl⟩
      exact ⟨rfl, PX.rfl.u60 _, tx.length, bd, tx.length, nb, 0, sg, wd, xu_eq _ _ _, Nat.le_refl _, hb1, by omega, Nat.le_refl _, Or.inr (Or.inl ⟨rfl, rfl, rfl, rfl⟩)⟩
    | cons t ts =>
      obtain ⟨L', ⟨sp, hsp, ⟨ch, rfl, hL, h1, h2, h3⟩ | ⟨ch, w, rfl, hL, h1, h2, h3, h4⟩ | ⟨ch, w, rfl, hL, h1, h2, h3, h4⟩⟩, hlx2⟩ := hlx
      · have hlen := drop_len hL hat
        rw [List.length_append, List.length_cons] at hlen
        have hc8 : ch < 128 := by
          have := hE.2.2.2.1 (at0 + sp.length)
          rw [drop_at hL, (sp_at hsp (Nat.le_refl _)).2 rfl] at this
          exact this
        have hd : tx.drop (at0 + sp.length + 1) = L' := by
          have h5 := drop_more hL
          exact drop_more (u := [ch]) h5
        refine ((m_X5_see_s h0 g hE hc hat hL hsp h1 h2 h3).room (by decide) (Nat.zero_le _) (Nat.zero_le _) (by decide)).post ?_
        rintro r g1 ⟨rfl, rfl⟩
        refine ⟨rfl, PX.rfl.u60 _, at0 + sp.length + 1, bd, at0 + sp.length, nb, 3, ch, wd, xu_eq _ _ _, by omega, hb1, by omega, by omega, Or.inr (Or.inr ⟨_, ts, rfl, rfl, Or.inr (Or.inr rfl), rfl, ?_, fun q => absurd (show (3 : Nat) = 1 from q) (by decide), fun q => absurd (show (3 : Nat) = 2 from q) (by decide), fun _ => ⟨rfl, hc8⟩⟩)⟩
        rw [hd, show decide (bd = ((at0 + sp.length + 1 : Nat) : Int)) = false from decide_eq_false (by omega)]
        exact hlx2
      · have hlen := drop_len hL hat
        rw [List.length_append, List.length_append, List.length_cons] at hlen
        have hL2 : tx.drop at0 = sp ++ ch :: (w ++ L') := hL
        have hcw : chL ch = true := by rw [List.all_cons, Bool.and_eq_true] at h1; exact h1.1
        have hcS : chS ch = false := by
          cases hx : chS ch with
          | false => rfl
          | true => rcases (chS_iff _).mp hx with rfl | rfl <;> exact absurd hcw (by decide)
        have hbd : bd ≠ ((at0 + sp.length : Nat) : Int) := fun q => by
          have q1 : sp.length = 0 := by omega
          have q2 : bd = at0 := by omega
          exact h2 (decide_eq_true q2) (List.length_eq_zero_iff.mp q1)
        have hd : tx.drop (at0 + sp.length + (w.length + 1)) = L' := by
          have h5 := drop_more hL
          exact drop_more (u := ch :: w) h5
        have hA : sA (ch :: w) := fun k => by
          rcases Nat.lt_or_ge k (ch :: w).length with e | e
          · have := hE.2.2.2.1 (at0 + sp.length + k)
            rw [drop_at (drop_more hL) k, gD_app e] at this
            exact this
          · rw [List.getD_eq_getElem?_getD, List.getElem?_eq_none e]; decide
        refine ((m_X5_see_w h0 g hE hc hat hL2 hsp hcS rfl h1 hb1 hb2 hbd h3 h4).room (by decide) (by decide) (by decide) (by decide)).post ?_
        rintro r g1 ⟨wa, d1, rfl, rfl⟩
        refine ⟨rfl, ((PX.rfl.u62 _).u61 _).u60 _, at0 + sp.length + (w.length + 1), ((at0 + sp.length + (w.length + 1) : Nat) : Int), at0 + sp.length, nb, 1, sg, some wa, xu_eq _ _ _, by omega, by omega, Int.le_refl _, by omega, Or.inr (Or.inr ⟨_, ts, rfl, rfl, Or.inl rfl, rfl, ?_, fun _ => ⟨wa, d1, rfl, by rw [xu_ne (by decide), xu_eq], by rw [xu_ne (by decide), xu_ne (by decide), xu_eq], hA, Nat.succ_le_succ h3⟩, fun q => absurd (show (1 : Nat) = 2 from q) (by decide), fun q => absurd (show (1 : Nat) = 3 from q) (by decide)⟩)⟩
        rw [hd, show decide ((((at0 + sp.length + (w.length + 1) : Nat) : Int)) = ((at0 + sp.length + (w.length + 1) : Nat) : Int)) = true from decide_eq_true rfl]
        exact hlx2
      · have hlen := drop_len hL hat
        rw [List.length_append, List.length_append, List.length_cons] at hlen
        have hL2 : tx.drop at0 = sp ++ ch :: (w ++ L') := hL
        have hcw : chD ch = true := by rw [List.all_cons, Bool.and_eq_true] at h1; exact h1.1
        have hcS : chS ch = false := by
          cases hx : chS ch with
          | false => rfl
          | true => rcases (chS_iff _).mp hx with rfl | rfl <;> exact absurd hcw (by decide)
        have hbd : bd ≠ ((at0 + sp.length : Nat) : Int) := fun q => by
          have q1 : sp.length = 0 := by omega
          have q2 : bd = at0 := by omega
          exact h2 (decide_eq_true q2) (List.length_eq_zero_iff.mp q1)
        have hd : tx.drop (at0 + sp.length + (w.length + 1)) = L' := by
          have h5 := drop_more hL
          exact drop_more (u := ch :: w) h5
        have hA : sA (ch :: w) := fun k => by
          rcases Nat.lt_or_ge k (ch :: w).length with e | e
          · have := hE.2.2.2.1 (at0 + sp.length + k)
            rw [drop_at (drop_more hL) k, gD_app e] at this
            exact this
          · rw [List.getD_eq_getElem?_getD, List.getElem?_eq_none e]; decide
        refine ((m_X5_see_n h0 g hE hc hat hL2 hsp hcS rfl h1 hb1 hb2 hbd h3 h4).room (by decide) (by decide) (by decide) (by decide)).post ?_
        rintro r g1 ⟨wa, d1, rfl, rfl⟩
        refine ⟨rfl, ((PX.rfl.u62 _).u61 _).u60 _, at0 + sp.length + (w.length + 1), ((at0 + sp.length + (w.length + 1) : Nat) : Int), at0 + sp.length, (sN (ch :: w)), 2, sg, some wa, xu_eq _ _ _, by omega, by omega, Int.le_refl _, by omega, Or.inr (Or.inr ⟨_, ts, rfl, rfl, Or.inr (Or.inl rfl), rfl, ?_, fun q => absurd (show (2 : Nat) = 1 from q) (by decide), fun _ => ⟨rfl, by
          have h6 := sN_lt _ h1
          have h7 : (10 : Nat) ^ (ch :: w).length ≤ 10 ^ 4 := Nat.pow_le_pow_right (by decide) (Nat.succ_le_succ h3)
          omega⟩, fun q => absurd (show (2 : Nat) = 3 from q) (by decide)⟩)⟩
        rw [hd, show decide ((((at0 + sp.length + (w.length + 1) : Nat) : Int)) = ((at0 + sp.length + (w.length + 1) : Nat) : Int)) = true from decide_eq_true rfl]
        exact hlx2
  · cases q
  · cases q
theorem PSt.cell {g : xG} {sc : Nat} {Z : Nat × Nat × Nat} {tx : List Nat} {fr to op : Nat} {sn : Bool} {tk : List Tk} (hq : PSt g sc Z tx fr to op sn tk) : ∃ fs, g (60, 0) = some (sc, xO 4 fs) := by
  obtain ⟨at0, bd, pl, nb, wh, sg, wd, hc, -⟩ := hq
  exact ⟨_, hc⟩
theorem PSt.wh {g : xG} {sc : Nat} {Z : Nat × Nat × Nat} {tx : List Nat} {fr to op : Nat} {tk : List Tk} (hq : PSt g sc Z tx fr to op true tk) : ∃ (at0 : Nat) (bd : Int) (pl nb sg : Nat) (wd : Option Nat), g (60, 0) = some (sc, scO Z fr to at0 bd pl nb (hdk tk) op 1 sg wd) ∧ at0 ≤ tx.length ∧ -1 ≤ bd ∧ bd ≤ at0 ∧ pl ≤ tx.length ∧ (tk = [] ∧ at0 = tx.length ∨ ∃ t ts, tk = t :: ts ∧ (t.1 = 1 ∨ t.1 = 2 ∨ t.1 = 3) ∧ lexes ts (decide (bd = at0)) (tx.drop at0) ∧ PTk g t nb sg wd) := by
  obtain ⟨at0, bd, pl, nb, wh, sg, wd, hc, hat, hb1, hb2, hpl, ⟨q, -⟩ | ⟨-, rfl, rfl, h1⟩ | ⟨t, ts, -, rfl, h1, rfl, h2, h3⟩⟩ := hq
  · cases q
  · exact ⟨at0, bd, pl, nb, sg, wd, hc, hat, hb1, hb2, hpl, Or.inl ⟨rfl, h1⟩⟩
  · exact ⟨at0, bd, pl, nb, sg, wd, hc, hat, hb1, hb2, hpl, Or.inr ⟨t, ts, rfl, h1, h2, h3⟩⟩
theorem m_X5_see {l : Launch} {s0 : State} {D : va_G} (h0 : x0 l s0 D) (g : xG) {sc : Nat} {Z : Nat × Nat × Nat} {tx : List Nat} {A V B : Nat → Nat} (hE : PE g Z tx A V B) {fr to op : Nat} {sn : Bool} {tk : List Tk} (hq : PSt g sc Z tx fr to op sn tk) {cz sz : Nat} (hz : sR sn cz sz) : xMet l s0 D yX5_see cX5_see 4 (some .int) (xr 6 cz sz 200) [.ref sc] g (fun r g1 => r = some (.int (nI (hdk tk))) ∧ PX g g1 ∧ PSt g1 sc Z tx fr to op true tk) := by
  cases sn with
  | false => exact (m_X5_see_f h0 g hE hq).room (Nat.le_refl _) (hz rfl).1 (hz rfl).2 (Nat.le_refl _)
  | true =>
    obtain ⟨at0, bd, pl, nb, sg, wd, hc, -⟩ := hq.wh
    refine ((m_X5_see_1 h0 g hc).room (Nat.zero_le _) (Nat.zero_le _) (Nat.zero_le _) (Nat.zero_le _)).post ?_
    rintro r g1 ⟨rfl, rfl⟩
    exact ⟨rfl, PX.rfl, hq⟩
theorem hdk_lt {g : xG} {sc : Nat} {Z : Nat × Nat × Nat} {tx : List Nat} {fr to op : Nat} {tk : List Tk} (hq : PSt g sc Z tx fr to op true tk) : hdk tk < 4 := by
  obtain ⟨at0, bd, pl, nb, sg, wd, -, -, -, -, -, ⟨rfl, -⟩ | ⟨t, ts, rfl, h, -⟩⟩ := hq.wh
  · decide
  · show t.1 < 4
    omega
/-- the first token is let go -/
theorem PSt.nx {g : xG} {sc : Nat} {Z : Nat × Nat × Nat} {tx : List Nat} {fr to op at0 : Nat} {bd : Int} {pl nb wh sg op2 fr2 to2 : Nat} {wd : Option Nat} {t : Tk} {ts : List Tk} (hat : at0 ≤ tx.length) (hb1 : -1 ≤ bd) (hb2 : bd ≤ at0) (hpl : pl ≤ tx.length) (hl : lexes ts (decide (bd = at0)) (tx.drop at0)) : PSt (xu g (60, 0) (some (sc, scO Z fr to at0 bd pl nb wh op 0 sg wd))) sc Z tx fr to op false ts :=
  ⟨at0, bd, pl, nb, wh, sg, wd, xu_eq _ _ _, hat, hb1, hb2, hpl, Or.inl ⟨rfl, hl⟩⟩
theorem PTk.u60 {g : xG} {t : Tk} {nb sg : Nat} {wd : Option Nat} (h : PTk g t nb sg wd) (x : Option (Nat × xE)) : PTk (xu g (60, 0) x) t nb sg wd := by
  obtain ⟨h1, h2, h3⟩ := h
  exact ⟨fun q => by
    obtain ⟨wa, wv, e1, e2, e3, e4⟩ := h1 q
    exact ⟨wa, wv, e1, by rw [xu_ne (by decide)]; exact e2, by rw [xu_ne (by decide)]; exact e3, e4⟩, h2, h3⟩

set_option maxHeartbeats 4000000 in
set_option maxRecDepth 100000 in
theorem m_X5_isSign {l : Launch} {s0 : State} {D : va_G} (h0 : x0 l s0 D) (g : xG) {sc : Nat} {Z : Nat × Nat × Nat} {tx : List Nat} {A V B : Nat → Nat} (hE : PE g Z tx A V B) {fr to op : Nat} {sn : Bool} {tk : List Tk} (hq : PSt g sc Z tx fr to op sn tk) {c : Nat} (hc8 : c < 128) {cz sz : Nat} (hz : sR sn cz sz) : xMet l s0 D yX5_isSign cX5_isSign 2 (some .boolean) (xr 7 cz sz 230) [.ref sc, .int (nI c)] g (fun r g1 => r = some (.int (b01 (hdS tk c))) ∧ PX g g1 ∧ PSt g1 sc Z tx fr to op true tk) := by
  refine xMet.of h0 (by decide +kernel) rfl ?_
  intro zp ze zs zm za zb zf zc hC hr hnm
  obtain ⟨fs0, hc⟩ := hq.cell
  refine x_aloadr_n hC dX5_isSign_0 (q := 1) rfl rfl ?_
  refine x_callV hC xv_X5_86 dX5_isSign_1 (q := 4) rfl rfl (m_X5_see h0 g hE hq hz) (nn := (60, 0)) hc rfl rfl (Nat.le_of_ble_eq_true rfl) ⟨(Nat.le_of_ble_eq_true rfl), (Nat.le_of_ble_eq_true rfl)⟩ ⟨(by (try dsimp only); omega), (by (try dsimp only); omega)⟩ (fun v g1 hp => ?_)
  obtain ⟨rfl, hx, hs1⟩ := hp
  obtain ⟨at0, bd, pl, nb, sg, wd, hc, hat, hb1, hb2, hpl, htk⟩ := hs1.wh
  refine x_iconst hC dX5_isSign_4 (q := 5) rfl (v := (3)) (by decide) ?_
  refine x_icmp_ne hC dX5_isSign_5 (q := 8) rfl (tgt := 20) rfl (fun h5 => ?_) (fun h5 => ?_)
  · have hno : hdS tk c = false := by
      refine decide_eq_false (fun q => h5 ?_)
      show nI (tk.headD (0, [])).1 = 3
      rw [q]; rfl
    refine x_iconst hC dX5_isSign_20 (q := 21) rfl (v := (0)) (by decide) ?_
    exact x_zret hC hr rfl dX5_isSign_21 (by (try dsimp only); omega) (by (try dsimp only); omega) (by first | exact ⟨by rw [hno]; rfl, hx, hs1⟩ | exact ⟨by rw [hys]; rfl, hx, hs1⟩)
  have hk3 : hdk tk = 3 := by
    have h6 : nI (hdk tk) = nI 3 := h5
    exact (nI_eq (by have := hdk_lt hs1; omega) (by decide)).mp h6
  obtain ⟨rfl, -⟩ | ⟨t, ts, rfl, h1, h2, h3⟩ := htk
  · exact absurd hk3 (by decide)
  obtain ⟨h4, h6⟩ := h3.2.2 hk3
  have ht : t = (3, [sg]) := by
    obtain ⟨t1, t2⟩ := t
    rw [show t1 = 3 from hk3, show t2 = [sg] from h4]
  refine x_aloadr_n hC dX5_isSign_8 (q := 9) rfl rfl ?_
  refine x_get hC xf_X5_53_4 dX5_isSign_9 (q := 12) rfl (n := (60, 0)) hc rfl ?_
  refine x_iload_n hC dX5_isSign_12 (q := 13) rfl rfl ?_
  refine x_icmp_ne hC dX5_isSign_13 (q := 16) rfl (tgt := 20) rfl (fun h13 => ?_) (fun h13 => ?_)
  · have hno : hdS (t :: ts) c = false := by
      refine decide_eq_false (fun q => h13 ?_)
      have q1 : t = (3, [c]) := q
      rw [ht] at q1
      have q2 : sg = c := by injection q1 with _ q3; injection q3
      rw [q2]
    refine x_iconst hC dX5_isSign_20 (q := 21) rfl (v := (0)) (by decide) ?_
    exact x_zret hC hr rfl dX5_isSign_21 (by (try dsimp only); omega) (by (try dsimp only); omega) (by first | exact ⟨by rw [hno]; rfl, hx, hs1⟩ | exact ⟨by rw [hys]; rfl, hx, hs1⟩)
  have hys : hdS (t :: ts) c = true := by
    have h7 : nI sg = nI c := h13
    have h8 := (nI_eq (by omega) (by omega)).mp h7
    exact decide_eq_true (by rw [← h8]; exact ht)
  refine x_iconst hC dX5_isSign_16 (q := 17) rfl (v := (1)) (by decide) ?_
  refine x_goto hC dX5_isSign_17 (tgt := 21) rfl ?_
  exact x_zret hC hr rfl dX5_isSign_21 (by (try dsimp only); omega) (by (try dsimp only); omega) (by first | exact ⟨by rw [hno]; rfl, hx, hs1⟩ | exact ⟨by rw [hys]; rfl, hx, hs1⟩)

set_option maxHeartbeats 4000000 in
set_option maxRecDepth 100000 in
theorem m_X5_isWord {l : Launch} {s0 : State} {D : va_G} (h0 : x0 l s0 D) (g : xG) {sc : Nat} {Z : Nat × Nat × Nat} {tx : List Nat} {A V B : Nat → Nat} (hS : KS0 s0 A V B) (hE : PE g Z tx A V B) {fr to op : Nat} {sn : Bool} {tk : List Tk} (hq : PSt g sc Z tx fr to op sn tk) (i : Nat) (hi : Nat.blt i 86 = true) {cz sz : Nat} (hz : sR sn cz sz) : xMet l s0 D yX5_isWord cX5_isWord 2 (some .boolean) (xr 7 cz sz 230) [.ref sc, .ref (A i)] g (fun r g1 => r = some (.int (b01 (hdW tk (cW i)))) ∧ PX g g1 ∧ PSt g1 sc Z tx fr to op true tk) := by
  refine xMet.of h0 (by decide +kernel) rfl ?_
  intro zp ze zs zm za zb zf zc hC hr hnm
  obtain ⟨fs0, hc⟩ := hq.cell
  refine x_aloadr_n hC dX5_isWord_0 (q := 1) rfl rfl ?_
  refine x_callV hC xv_X5_86 dX5_isWord_1 (q := 4) rfl rfl (m_X5_see h0 g hE hq hz) (nn := (60, 0)) hc rfl rfl (Nat.le_of_ble_eq_true rfl) ⟨(Nat.le_of_ble_eq_true rfl), (Nat.le_of_ble_eq_true rfl)⟩ ⟨(by (try dsimp only); omega), (by (try dsimp only); omega)⟩ (fun v g1 hp => ?_)
  obtain ⟨rfl, hx, hs1⟩ := hp
  obtain ⟨at0, bd, pl, nb, sg, wd, hc, hat, hb1, hb2, hpl, htk⟩ := hs1.wh
  refine x_iconst hC dX5_isWord_4 (q := 5) rfl (v := (1)) (by decide) ?_
  refine x_icmp_ne hC dX5_isWord_5 (q := 8) rfl (tgt := 23) rfl (fun h5 => ?_) (fun h5 => ?_)
  · have hno : hdW tk (cW i) = false := by
      refine decide_eq_false (fun q => h5 ?_)
      show nI (tk.headD (0, [])).1 = 1
      rw [q]; rfl
    refine x_iconst hC dX5_isWord_23 (q := 24) rfl (v := (0)) (by decide) ?_
    exact x_zret hC hr rfl dX5_isWord_24 (by (try dsimp only); omega) (by (try dsimp only); omega) (by first | exact ⟨by rw [hno]; rfl, hx, hs1⟩ | exact ⟨by rw [hys]; rfl, hx, hs1⟩)
  have hk3 : hdk tk = 1 := by
    have h6 : nI (hdk tk) = nI 1 := h5
    exact (nI_eq (by have := hdk_lt hs1; omega) (by decide)).mp h6
  obtain ⟨rfl, -⟩ | ⟨t, ts, rfl, h1, h2, h3⟩ := htk
  · exact absurd hk3 (by decide)
  obtain ⟨wa, wv, rfl, e1, e2, e3, e4⟩ := h3.1 hk3
  have hK1 := (hE.px hx).2.2.2.2
  refine x_ne (n := (61, 0)) (k := (1001, i)) rfl rfl rfl e1 (hK1.s i hi) (fun hab => ?_)
  refine x_aloadr_n hC dX5_isWord_8 (q := 9) rfl rfl ?_
  refine x_get hC xf_X5_67_4 dX5_isWord_9 (q := 12) rfl (n := (60, 0)) hc rfl ?_
  refine x_aloadr_n hC dX5_isWord_12 (q := 13) rfl rfl ?_
  refine x_callV hC xv_X5_89 dX5_isWord_13 (q := 16) rfl rfl (m_J6_equals h0 _ e1 e2 (hK1.s i hi) (hK1.v i hi) (by omega) (c_len i hi) (fun q => absurd q hab)) (nn := (61, 0)) e1 rfl rfl (Nat.le_of_ble_eq_true rfl) ⟨(Nat.le_of_ble_eq_true rfl), (Nat.le_of_ble_eq_true rfl)⟩ ⟨(by (try dsimp only); omega), (by (try dsimp only); omega)⟩ (fun v g1 hp => ?_)
  obtain ⟨rfl, hg1⟩ := hp
  replace hg1 := hg1.symm
  subst hg1
  refine x_if_eq hC dX5_isWord_16 (q := 19) rfl (tgt := 23) rfl (fun h16 => ?_) (fun h16 => ?_)
  · have hno : hdW (t :: ts) (cW i) = false := by
      refine decide_eq_false (fun q => ?_)
      have q1 : t = (1, cW i) := q
      rw [if_pos ((sEqs_sL e3 (sA_c i hi)).mpr (by rw [q1]))] at h16
      exact absurd h16 (by decide)
    refine x_iconst hC dX5_isWord_23 (q := 24) rfl (v := (0)) (by decide) ?_
    exact x_zret hC hr rfl dX5_isWord_24 (by (try dsimp only); omega) (by (try dsimp only); omega) (by first | exact ⟨by rw [hno]; rfl, hx, hs1⟩ | exact ⟨by rw [hys]; rfl, hx, hs1⟩)
  have hys : hdW (t :: ts) (cW i) = true := by
    refine decide_eq_true ?_
    by_cases q : t.2.length = (cW i).length ∧ sEqs (sL t.2) (sL (cW i)) t.2.length = true
    · have q1 := (sEqs_sL e3 (sA_c i hi)).mp q
      show t = (1, cW i)
      obtain ⟨t1, t2⟩ := t
      rw [show t1 = 1 from hk3, show t2 = cW i from q1]
    · rw [if_neg q] at h16
      exact absurd rfl h16
  refine x_iconst hC dX5_isWord_19 (q := 20) rfl (v := (1)) (by decide) ?_
  refine x_goto hC dX5_isWord_20 (tgt := 24) rfl ?_
  exact x_zret hC hr rfl dX5_isWord_24 (by (try dsimp only); omega) (by (try dsimp only); omega) (by first | exact ⟨by rw [hno]; rfl, hx, hs1⟩ | exact ⟨by rw [hys]; rfl, hx, hs1⟩)

set_option maxHeartbeats 4000000 in
set_option maxRecDepth 100000 in
theorem m_X5_takes_2 {l : Launch} {s0 : State} {D : va_G} (h0 : x0 l s0 D) (g : xG) {sc : Nat} {Z : Nat × Nat × Nat} {tx : List Nat} {A V B : Nat → Nat} (hE : PE g Z tx A V B) {fr to op : Nat} {sn : Bool} {tk : List Tk} (hq : PSt g sc Z tx fr to op sn tk) {c : Nat} (hc8 : c < 128) {cz sz : Nat} (hz : sR sn cz sz) : xMet l s0 D yX5_takes_2 cX5_takes_2 2 (some .boolean) (xr 8 cz sz 260) [.ref sc, .int (nI c)] g (fun r g1 => r = some (.int (b01 (hdS tk c))) ∧ PX g g1 ∧ PSt g1 sc Z tx fr to op (!(hdS tk c)) (tkT (hdS tk c) tk)) := by
  refine xMet.of h0 (by decide +kernel) rfl ?_
  intro zp ze zs zm za zb zf zc hC hr hnm
  obtain ⟨fs0, hc⟩ := hq.cell
  refine x_aloadr_n hC dX5_takes_2_0 (q := 1) rfl rfl ?_
  refine x_iload_n hC dX5_takes_2_1 (q := 2) rfl rfl ?_
  refine x_callV hC xv_X5_93 dX5_takes_2_2 (q := 5) rfl rfl (m_X5_isSign h0 g hE hq hc8 hz) (nn := (60, 0)) hc rfl rfl (Nat.le_of_ble_eq_true rfl) ⟨(Nat.le_of_ble_eq_true rfl), (Nat.le_of_ble_eq_true rfl)⟩ ⟨(by (try dsimp only); omega), (by (try dsimp only); omega)⟩ (fun v g1 hp => ?_)
  obtain ⟨rfl, hx, hs1⟩ := hp
  obtain ⟨at0, bd, pl, nb, sg, wd, hc, hat, hb1, hb2, hpl, htk⟩ := hs1.wh
  refine x_if_ne hC dX5_takes_2_5 (q := 8) rfl (tgt := 10) rfl (fun h5 => ?_) (fun h5 => ?_)
  · have hys : (hdS tk c) = true := by
      cases hb : (hdS tk c) with
      | true => rfl
      | false => rw [hb] at h5; exact absurd (show b01 false = 0 from rfl) h5
    obtain ⟨rfl, -⟩ | ⟨t, ts, rfl, h1, h2, h3⟩ := htk
    · exact absurd (of_decide_eq_true hys) (fun q => by cases q)
    refine x_aloadr_n hC dX5_takes_2_10 (q := 11) rfl rfl ?_
    refine x_iconst hC dX5_takes_2_11 (q := 12) rfl (v := (0)) (by decide) ?_
    refine x_put hC (n := (60, 0)) xf_X5_29_4 xd_4 rfl dX5_takes_2_12 (q := 15) rfl hc rfl rfl rfl ?_
    refine x_iconst hC dX5_takes_2_15 (q := 16) rfl (v := (1)) (by decide) ?_
    exact x_zret hC hr rfl dX5_takes_2_16 (by (try dsimp only); omega) (by (try dsimp only); omega) ⟨by rw [hys]; rfl, hx.u60 _, by rw [hys]; exact PSt.nx (t := t) (op2 := 0) (fr2 := 0) (to2 := 0) hat hb1 hb2 hpl h2⟩
  have hno : (hdS tk c) = false := by
    cases hb : (hdS tk c) with
    | false => rfl
    | true => rw [hb] at h5; exact absurd (show b01 true = 0 from h5) (by decide)
  refine x_iconst hC dX5_takes_2_8 (q := 9) rfl (v := (0)) (by decide) ?_
  exact x_zret hC hr rfl dX5_takes_2_9 (by (try dsimp only); omega) (by (try dsimp only); omega) ⟨by rw [hno]; rfl, hx, by rw [hno]; exact hs1⟩

set_option maxHeartbeats 4000000 in
set_option maxRecDepth 100000 in
theorem m_X5_takes {l : Launch} {s0 : State} {D : va_G} (h0 : x0 l s0 D) (g : xG) {sc : Nat} {Z : Nat × Nat × Nat} {tx : List Nat} {A V B : Nat → Nat} (hS : KS0 s0 A V B) (hE : PE g Z tx A V B) {fr to op : Nat} {sn : Bool} {tk : List Tk} (hq : PSt g sc Z tx fr to op sn tk) (i : Nat) (hi : Nat.blt i 86 = true) {cz sz : Nat} (hz : sR sn cz sz) : xMet l s0 D yX5_takes cX5_takes 2 (some .boolean) (xr 8 cz sz 260) [.ref sc, .ref (A i)] g (fun r g1 => r = some (.int (b01 (hdW tk (cW i)))) ∧ PX g g1 ∧ PSt g1 sc Z tx fr to op (!(hdW tk (cW i))) (tkT (hdW tk (cW i)) tk)) := by
  refine xMet.of h0 (by decide +kernel) rfl ?_
  intro zp ze zs zm za zb zf zc hC hr hnm
  obtain ⟨fs0, hc⟩ := hq.cell
  refine x_aloadr_n hC dX5_takes_0 (q := 1) rfl rfl ?_
  refine x_aloadr_n hC dX5_takes_1 (q := 2) rfl rfl ?_
  refine x_callV hC xv_X5_96 dX5_takes_2 (q := 5) rfl rfl (m_X5_isWord h0 g hS hE hq i hi hz) (nn := (60, 0)) hc rfl rfl (Nat.le_of_ble_eq_true rfl) ⟨(Nat.le_of_ble_eq_true rfl), (Nat.le_of_ble_eq_true rfl)⟩ ⟨(by (try dsimp only); omega), (by (try dsimp only); omega)⟩ (fun v g1 hp => ?_)
  obtain ⟨rfl, hx, hs1⟩ := hp
  obtain ⟨at0, bd, pl, nb, sg, wd, hc, hat, hb1, hb2, hpl, htk⟩ := hs1.wh
  refine x_if_ne hC dX5_takes_5 (q := 8) rfl (tgt := 10) rfl (fun h5 => ?_) (fun h5 => ?_)
  · have hys : (hdW tk (cW i)) = true := by
      cases hb : (hdW tk (cW i)) with
      | true => rfl
      | false => rw [hb] at h5; exact absurd (show b01 false = 0 from rfl) h5
    obtain ⟨rfl, -⟩ | ⟨t, ts, rfl, h1, h2, h3⟩ := htk
    · exact absurd (of_decide_eq_true hys) (fun q => by cases q)
    refine x_aloadr_n hC dX5_takes_10 (q := 11) rfl rfl ?_
    refine x_iconst hC dX5_takes_11 (q := 12) rfl (v := (0)) (by decide) ?_
    refine x_put hC (n := (60, 0)) xf_X5_29_4 xd_4 rfl dX5_takes_12 (q := 15) rfl hc rfl rfl rfl ?_
    refine x_iconst hC dX5_takes_15 (q := 16) rfl (v := (1)) (by decide) ?_
    exact x_zret hC hr rfl dX5_takes_16 (by (try dsimp only); omega) (by (try dsimp only); omega) ⟨by rw [hys]; rfl, hx.u60 _, by rw [hys]; exact PSt.nx (t := t) (op2 := 0) (fr2 := 0) (to2 := 0) hat hb1 hb2 hpl h2⟩
  have hno : (hdW tk (cW i)) = false := by
    cases hb : (hdW tk (cW i)) with
    | false => rfl
    | true => rw [hb] at h5; exact absurd (show b01 true = 0 from h5) (by decide)
  refine x_iconst hC dX5_takes_8 (q := 9) rfl (v := (0)) (by decide) ?_
  exact x_zret hC hr rfl dX5_takes_9 (by (try dsimp only); omega) (by (try dsimp only); omega) ⟨by rw [hno]; rfl, hx, by rw [hno]; exact hs1⟩

theorem tkT_t {b : Bool} (h : b = true) (tk : List Tk) : tkT b tk = tk.tail := by rw [h]; rfl
theorem tkT_f {b : Bool} (h : b = false) (tk : List Tk) : tkT b tk = tk := by rw [h]; rfl
theorem hdS_c (c : Nat) (ts : List Tk) : hdS ((3, [c]) :: ts) c = true := decide_eq_true rfl
theorem hdW_c (w : List Nat) (ts : List Tk) : hdW ((1, w) :: ts) w = true := decide_eq_true rfl

set_option maxHeartbeats 4000000 in
set_option maxRecDepth 100000 in
theorem m_X5_asks_2 {l : Launch} {s0 : State} {D : va_G} (h0 : x0 l s0 D) (g : xG) {c : Nat} (hc8 : c < 128) {sc : Nat} {Z : Nat × Nat × Nat} {tx : List Nat} {A V B : Nat → Nat} (hE : PE g Z tx A V B) {fr to op : Nat} {sn : Bool} {ts : List Tk} (hq : PSt g sc Z tx fr to op sn ((3, [c]) :: ts)) {cz sz : Nat} (hz : sR sn cz sz) : xMet l s0 D yX5_asks_2 cX5_asks_2 2 none (xr 9 cz sz 290) [.ref sc, .int (nI c)] g (fun r g1 => r = none ∧ PX g g1 ∧ PSt g1 sc Z tx fr to op false ts) := by
  refine xMet.of h0 (by decide +kernel) rfl ?_
  intro zp ze zs zm za zb zf zc hC hr hnm
  obtain ⟨fs0, hc⟩ := hq.cell
  refine x_aloadr_n hC dX5_asks_2_0 (q := 1) rfl rfl ?_
  refine x_iload_n hC dX5_asks_2_1 (q := 2) rfl rfl ?_
  refine x_callV hC xv_X5_99 dX5_asks_2_2 (q := 5) rfl rfl (m_X5_takes_2 h0 g hE hq hc8 hz) (nn := (60, 0)) hc rfl rfl (Nat.le_of_ble_eq_true rfl) ⟨(Nat.le_of_ble_eq_true rfl), (Nat.le_of_ble_eq_true rfl)⟩ ⟨(by (try dsimp only); omega), (by (try dsimp only); omega)⟩ (fun v g1 hp => ?_)
  rw [hdS_c c ts] at hp
  obtain ⟨rfl, hx, hs1⟩ := hp
  refine x_if_ne hC dX5_asks_2_5 (q := 8) rfl (tgt := 13) rfl (fun h5 => ?_) (fun h5 => ?_)
  · exact x_vret hC hr dX5_asks_2_13 (by (try dsimp only); omega) (by (try dsimp only); omega) ⟨rfl, hx, hs1⟩
  · exact absurd (show b01 true = 0 from h5) (by decide)

set_option maxHeartbeats 4000000 in
set_option maxRecDepth 100000 in
theorem m_X5_asks {l : Launch} {s0 : State} {D : va_G} (h0 : x0 l s0 D) (g : xG) (i : Nat) (hi : Nat.blt i 86 = true) {sc : Nat} {Z : Nat × Nat × Nat} {tx : List Nat} {A V B : Nat → Nat} (hS : KS0 s0 A V B) (hE : PE g Z tx A V B) {fr to op : Nat} {sn : Bool} {ts : List Tk} (hq : PSt g sc Z tx fr to op sn ((1, cW i) :: ts)) {cz sz : Nat} (hz : sR sn cz sz) : xMet l s0 D yX5_asks cX5_asks 2 none (xr 9 cz sz 290) [.ref sc, .ref (A i)] g (fun r g1 => r = none ∧ PX g g1 ∧ PSt g1 sc Z tx fr to op false ts) := by
  refine xMet.of h0 (by decide +kernel) rfl ?_
  intro zp ze zs zm za zb zf zc hC hr hnm
  obtain ⟨fs0, hc⟩ := hq.cell
  refine x_aloadr_n hC dX5_asks_0 (q := 1) rfl rfl ?_
  refine x_aloadr_n hC dX5_asks_1 (q := 2) rfl rfl ?_
  refine x_callV hC xv_X5_106 dX5_asks_2 (q := 5) rfl rfl (m_X5_takes h0 g hS hE hq i hi hz) (nn := (60, 0)) hc rfl rfl (Nat.le_of_ble_eq_true rfl) ⟨(Nat.le_of_ble_eq_true rfl), (Nat.le_of_ble_eq_true rfl)⟩ ⟨(by (try dsimp only); omega), (by (try dsimp only); omega)⟩ (fun v g1 hp => ?_)
  rw [hdW_c (cW i) ts] at hp
  obtain ⟨rfl, hx, hs1⟩ := hp
  refine x_if_ne hC dX5_asks_5 (q := 8) rfl (tgt := 13) rfl (fun h5 => ?_) (fun h5 => ?_)
  · exact x_vret hC hr dX5_asks_13 (by (try dsimp only); omega) (by (try dsimp only); omega) ⟨rfl, hx, hs1⟩
  · exact absurd (show b01 true = 0 from h5) (by decide)

set_option maxHeartbeats 4000000 in
set_option maxRecDepth 100000 in
theorem m_X5_number {l : Launch} {s0 : State} {D : va_G} (h0 : x0 l s0 D) (g : xG) {sc : Nat} {Z : Nat × Nat × Nat} {tx : List Nat} {A V B : Nat → Nat} {w : List Nat} (hE : PE g Z tx A V B) {fr to op : Nat} {sn : Bool} {ts : List Tk} (hq : PSt g sc Z tx fr to op sn ((2, w) :: ts)) {lo hi : Nat} (hlo : lo ≤ sN w) (hhi : sN w ≤ hi) (hh : hi < 100000) {cz sz : Nat} (hz : sR sn cz sz) : xMet l s0 D yX5_number cX5_number 3 (some .int) (xr 7 cz sz 240) [.ref sc, .int (nI lo), .int (nI hi)] g (fun r g1 => r = some (.int (nI (sN w))) ∧ PX g g1 ∧ PSt g1 sc Z tx fr to op false ts) := by
  refine xMet.of h0 (by decide +kernel) rfl ?_
  intro zp ze zs zm za zb zf zc hC hr hnm
  obtain ⟨fs0, hc⟩ := hq.cell
  refine x_aloadr_n hC dX5_number_0 (q := 1) rfl rfl ?_
  refine x_callV hC xv_X5_86 dX5_number_1 (q := 4) rfl rfl (m_X5_see h0 g hE hq hz) (nn := (60, 0)) hc rfl rfl (Nat.le_of_ble_eq_true rfl) ⟨(Nat.le_of_ble_eq_true rfl), (Nat.le_of_ble_eq_true rfl)⟩ ⟨(by (try dsimp only); omega), (by (try dsimp only); omega)⟩ (fun v g1 hp => ?_)
  obtain ⟨rfl, hx, hs1⟩ := hp
  obtain ⟨at0, bd, pl, nb, sg, wd, hc, hat, hb1, hb2, hpl, htk⟩ := hs1.wh
  obtain ⟨q, -⟩ | ⟨t, ts1, q, h1, h2, h3⟩ := htk
  · cases q
  cases q
  obtain ⟨rfl, h4⟩ := h3.2.1 rfl
  refine x_iconst hC dX5_number_4 (q := 5) rfl (v := (2)) (by decide) ?_
  refine x_icmp_eq hC dX5_number_5 (q := 8) rfl (tgt := 13) rfl (fun h5 => ?_) (fun h5 => ?_)
  · refine x_aloadr_n hC dX5_number_13 (q := 14) rfl rfl ?_
    refine x_get hC xf_X5_83_4 dX5_number_14 (q := 17) rfl (n := (60, 0)) hc rfl ?_
    refine x_i2l hC dX5_number_17 (q := 18) rfl ?_
    refine x_iload_n hC dX5_number_18 (q := 19) rfl rfl ?_
    refine x_i2l hC dX5_number_19 (q := 20) rfl ?_
    refine x_iload_n hC dX5_number_20 (q := 21) rfl rfl ?_
    refine x_i2l hC dX5_number_21 (q := 22) rfl ?_
    refine x_callSN hC xv_X5_108 dX5_number_22 (q := 25) rfl rfl (m_isIn_t h0 _ (x := (sN w : Int)) (y := (lo : Int)) (z := (hi : Int)) (nI64 (by omega)) (nI64 (by omega)) (nI64 (by omega)) ⟨by omega, by omega⟩) rfl (Nat.le_of_ble_eq_true rfl) ⟨(Nat.le_of_ble_eq_true rfl), (Nat.le_of_ble_eq_true rfl)⟩ ⟨(by (try dsimp only); omega), (by (try dsimp only); omega)⟩ (fun v g1 hp => ?_)
    obtain ⟨rfl, hg1⟩ := hp
    replace hg1 := hg1.symm
    subst hg1
    refine x_if_ne hC dX5_number_25 (q := 28) rfl (tgt := 41) rfl (fun h25 => ?_) (fun h25 => ?_)
    · refine x_aloadr_n hC dX5_number_41 (q := 42) rfl rfl ?_
      refine x_iconst hC dX5_number_42 (q := 43) rfl (v := (0)) (by decide) ?_
      refine x_put hC (n := (60, 0)) xf_X5_29_4 xd_4 rfl dX5_number_43 (q := 46) rfl hc rfl rfl rfl ?_
      refine x_aloadr_n hC dX5_number_46 (q := 47) rfl rfl ?_
      refine x_get hC xf_X5_83_4 dX5_number_47 (q := 50) rfl (n := (60, 0)) (xu_eq _ _ _) rfl ?_
      exact x_iret hC hr dX5_number_50 (by (try dsimp only); omega) (by (try dsimp only); omega) ⟨rfl, hx.u60 _, PSt.nx (t := (2, w)) (op2 := 0) (fr2 := 0) (to2 := 0) hat hb1 hb2 hpl h2⟩
    · exact absurd h25 (by decide)
  · exact absurd rfl h5

set_option maxHeartbeats 4000000 in
set_option maxRecDepth 100000 in
theorem m_X5_opens {l : Launch} {s0 : State} {D : va_G} (h0 : x0 l s0 D) (g : xG) {c : Nat} (hc8 : c < 128) {sc : Nat} {Z : Nat × Nat × Nat} {tx : List Nat} {A V B : Nat → Nat} (hE : PE g Z tx A V B) {fr to op : Nat} {sn : Bool} {ts : List Tk} (hq : PSt g sc Z tx fr to op sn ((3, [c]) :: ts)) (hop : op < 7) {cz sz : Nat} (hz : sR sn cz sz) : xMet l s0 D yX5_opens cX5_opens 2 none (xr 8 cz sz 260) [.ref sc, .int (nI c)] g (fun r g1 => r = none ∧ PX g g1 ∧ PSt g1 sc Z tx fr to (op + 1) false ts) := by
  refine xMet.of h0 (by decide +kernel) rfl ?_
  intro zp ze zs zm za zb zf zc hC hr hnm
  obtain ⟨fs0, hc⟩ := hq.cell
  refine x_aloadr_n hC dX5_opens_0 (q := 1) rfl rfl ?_
  refine x_iload_n hC dX5_opens_1 (q := 2) rfl rfl ?_
  refine x_callV hC xv_X5_93 dX5_opens_2 (q := 5) rfl rfl (m_X5_isSign h0 g hE hq hc8 hz) (nn := (60, 0)) hc rfl rfl (Nat.le_of_ble_eq_true rfl) ⟨(Nat.le_of_ble_eq_true rfl), (Nat.le_of_ble_eq_true rfl)⟩ ⟨(by (try dsimp only); omega), (by (try dsimp only); omega)⟩ (fun v g1 hp => ?_)
  rw [hdS_c c ts] at hp
  obtain ⟨rfl, hx, hs1⟩ := hp
  obtain ⟨at0, bd, pl, nb, sg, wd, hc, hat, hb1, hb2, hpl, htk⟩ := hs1.wh
  obtain ⟨q, -⟩ | ⟨t, ts1, q, h1, h2, h3⟩ := htk
  · cases q
  cases q
  refine x_if_ne hC dX5_opens_5 (q := 8) rfl (tgt := 13) rfl (fun h5 => ?_) (fun h5 => ?_)
  · refine x_aloadr_n hC dX5_opens_13 (q := 14) rfl rfl ?_
    refine x_get hC xf_X5_119_4 dX5_opens_14 (q := 17) rfl (n := (60, 0)) hc rfl ?_
    refine x_bipush hC dX5_opens_17 (q := 19) rfl (v := (7)) (by decide) ?_
    refine x_icmp_ne hC dX5_opens_19 (q := 22) rfl (tgt := 35) rfl (fun h19 => ?_) (fun h19 => ?_)
    · refine x_aloadr_n hC dX5_opens_35 (q := 36) rfl rfl ?_
      refine x_dup hC dX5_opens_36 (q := 37) rfl rfl ?_
      refine x_get hC xf_X5_119_4 dX5_opens_37 (q := 40) rfl (n := (60, 0)) hc rfl ?_
      refine x_iconst hC dX5_opens_40 (q := 41) rfl (v := (1)) (by decide) ?_
      refine x_iadd hC dX5_opens_41 (q := 42) rfl ?_
      rw [nI_1]
      refine x_put hC (n := (60, 0)) xf_X5_119_4 xd_4 rfl dX5_opens_42 (q := 45) rfl hc rfl rfl rfl ?_
      refine x_aloadr_n hC dX5_opens_45 (q := 46) rfl rfl ?_
      refine x_iconst hC dX5_opens_46 (q := 47) rfl (v := (0)) (by decide) ?_
      refine x_put hC (n := (60, 0)) xf_X5_29_4 xd_4 rfl dX5_opens_47 (q := 50) rfl (xu_eq _ _ _) rfl rfl rfl ?_
      rw [xu_xu]
      exact x_vret hC hr dX5_opens_50 (by (try dsimp only); omega) (by (try dsimp only); omega) ⟨rfl, hx.u60 _, PSt.nx (t := (3, [c])) (op2 := 0) (fr2 := 0) (to2 := 0) hat hb1 hb2 hpl h2⟩
    · exact absurd (show nI op = nI 7 from h19) (fun q => by have := (nI_eq (by omega) (by decide)).mp q; omega)
  · exact absurd (show b01 true = 0 from h5) (by decide)

set_option maxHeartbeats 4000000 in
set_option maxRecDepth 100000 in
theorem m_X5_closes {l : Launch} {s0 : State} {D : va_G} (h0 : x0 l s0 D) (g : xG) {c : Nat} (hc8 : c < 128) {sc : Nat} {Z : Nat × Nat × Nat} {tx : List Nat} {A V B : Nat → Nat} (hE : PE g Z tx A V B) {fr to op : Nat} {sn : Bool} {ts : List Tk} (hq : PSt g sc Z tx fr to (op + 1) sn ((3, [c]) :: ts)) {cz sz : Nat} (hz : sR sn cz sz) : xMet l s0 D yX5_closes cX5_closes 2 none (xr 10 cz sz 320) [.ref sc, .int (nI c)] g (fun r g1 => r = none ∧ PX g g1 ∧ PSt g1 sc Z tx fr to op false ts) := by
  refine xMet.of h0 (by decide +kernel) rfl ?_
  intro zp ze zs zm za zb zf zc hC hr hnm
  obtain ⟨fs0, hc⟩ := hq.cell
  refine x_aloadr_n hC dX5_closes_0 (q := 1) rfl rfl ?_
  refine x_iload_n hC dX5_closes_1 (q := 2) rfl rfl ?_
  refine x_callV hC xv_X5_122 dX5_closes_2 (q := 5) rfl rfl (m_X5_asks_2 h0 g hc8 hE hq hz) (nn := (60, 0)) hc rfl rfl (Nat.le_of_ble_eq_true rfl) ⟨(Nat.le_of_ble_eq_true rfl), (Nat.le_of_ble_eq_true rfl)⟩ ⟨(by (try dsimp only); omega), (by (try dsimp only); omega)⟩ (fun v g1 hp => ?_)
  obtain ⟨rfl, hx, hs1⟩ := hp
  obtain ⟨at0, bd, pl, nb, wh, sg, wd, hc, hat, hb1, hb2, hpl, ⟨-, hlx⟩ | ⟨q, -⟩ | ⟨t, ts1, q, -⟩⟩ := hs1
  rotate_left
  · cases q
  · cases q
  refine x_aloadr_n hC dX5_closes_5 (q := 6) rfl rfl ?_
  refine x_dup hC dX5_closes_6 (q := 7) rfl rfl ?_
  refine x_get hC xf_X5_119_4 dX5_closes_7 (q := 10) rfl (n := (60, 0)) hc rfl ?_
  refine x_iconst hC dX5_closes_10 (q := 11) rfl (v := (1)) (by decide) ?_
  refine x_isub hC dX5_closes_11 (q := 12) rfl ?_
  rw [show nI (op + 1) - 1 = nI op by rw [nI_m1 (by omega)]; rfl]
  refine x_put hC (n := (60, 0)) xf_X5_119_4 xd_4 rfl dX5_closes_12 (q := 15) rfl hc rfl rfl rfl ?_
  exact x_vret hC hr dX5_closes_15 (by (try dsimp only); omega) (by (try dsimp only); omega) ⟨rfl, hx.u60 _, PSt.nx (t := (3, [c])) (op2 := 0) (fr2 := 0) (to2 := 0) hat hb1 hb2 hpl hlx⟩

def isP (tk : List Tk) : Bool := hdS tk 42 || hdS tk 47 || hdS tk 37

set_option maxHeartbeats 4000000 in
set_option maxRecDepth 100000 in
theorem m_X5_isProduct {l : Launch} {s0 : State} {D : va_G} (h0 : x0 l s0 D) (g : xG) {sc : Nat} {Z : Nat × Nat × Nat} {tx : List Nat} {A V B : Nat → Nat} (hE : PE g Z tx A V B) {fr to op : Nat} {sn : Bool} {tk : List Tk} (hq : PSt g sc Z tx fr to op sn tk) {cz sz : Nat} (hz : sR sn cz sz) : xMet l s0 D yX5_isProduct cX5_isProduct 1 (some .boolean) (xr 8 cz sz 260) [.ref sc] g (fun r g1 => r = some (.int (b01 (isP tk))) ∧ PX g g1 ∧ PSt g1 sc Z tx fr to op true tk) := by
  refine xMet.of h0 (by decide +kernel) rfl ?_
  intro zp ze zs zm za zb zf zc hC hr hnm
  obtain ⟨fs0, hc⟩ := hq.cell
  have hx0 : PX g g := PX.rfl
  have hs0 := hq
  refine x_aloadr_n hC dX5_isProduct_0 (q := 1) rfl rfl ?_
  refine x_bipush hC dX5_isProduct_1 (q := 3) rfl (v := (42)) (by decide) ?_
  refine x_callV hC xv_X5_93 dX5_isProduct_3 (q := 6) rfl rfl (m_X5_isSign h0 _ (hE.px hx0) hs0 (c := 42) (by decide) hz) (nn := (60, 0)) hc rfl rfl (Nat.le_of_ble_eq_true rfl) ⟨(Nat.le_of_ble_eq_true rfl), (Nat.le_of_ble_eq_true rfl)⟩ ⟨(by (try dsimp only); omega), (by (try dsimp only); omega)⟩ (fun v g1 hp => ?_)
  obtain ⟨rfl, hy1, hs1⟩ := hp
  have hx1 := hx0.trans hy1
  obtain ⟨fs1, hc1⟩ := hs1.cell
  refine x_if_ne hC dX5_isProduct_6 (q := 9) rfl (tgt := 27) rfl (fun h6 => ?_) (fun h6 => ?_)
  · have hh : hdS tk 42 = true := by
      cases hb : hdS tk 42 with
      | true => rfl
      | false => rw [hb] at h6; exact absurd (show b01 false = 0 from rfl) h6
    have hys : isP tk = true := by unfold isP; rw [hh]; rfl
    refine x_iconst hC dX5_isProduct_27 (q := 28) rfl (v := (1)) (by decide) ?_
    refine x_goto hC dX5_isProduct_28 (tgt := 32) rfl ?_
    exact x_zret hC hr rfl dX5_isProduct_32 (by (try dsimp only); omega) (by (try dsimp only); omega) (by first | exact ⟨by rw [hno]; rfl, hx3, hs3⟩ | exact ⟨by rw [hys]; rfl, hx3, hs3⟩ | exact ⟨by rw [hys]; rfl, hx2, hs2⟩ | exact ⟨by rw [hys]; rfl, hx1, hs1⟩)
  have ha : hdS tk 42 = false := by
    cases hb : hdS tk 42 with
    | false => rfl
    | true => rw [hb] at h6; exact absurd (show b01 true = 0 from h6) (by decide)
  refine x_aloadr_n hC dX5_isProduct_9 (q := 10) rfl rfl ?_
  refine x_bipush hC dX5_isProduct_10 (q := 12) rfl (v := (47)) (by decide) ?_
  refine x_callV hC xv_X5_93 dX5_isProduct_12 (q := 15) rfl rfl (m_X5_isSign h0 _ (hE.px hx1) hs1 (c := 47) (by decide) (cz := 0) (sz := 0) sR_t) (nn := (60, 0)) hc1 rfl rfl (Nat.le_of_ble_eq_true rfl) ⟨(Nat.le_of_ble_eq_true rfl), (Nat.le_of_ble_eq_true rfl)⟩ ⟨(by (try dsimp only); omega), (by (try dsimp only); omega)⟩ (fun v g1 hp => ?_)
  obtain ⟨rfl, hy2, hs2⟩ := hp
  have hx2 := hx1.trans hy2
  obtain ⟨fs2, hc2⟩ := hs2.cell
  refine x_if_ne hC dX5_isProduct_15 (q := 18) rfl (tgt := 27) rfl (fun h15 => ?_) (fun h15 => ?_)
  · have hh : hdS tk 47 = true := by
      cases hb : hdS tk 47 with
      | true => rfl
      | false => rw [hb] at h15; exact absurd (show b01 false = 0 from rfl) h15
    have hys : isP tk = true := by unfold isP; rw [ha, hh]; rfl
    refine x_iconst hC dX5_isProduct_27 (q := 28) rfl (v := (1)) (by decide) ?_
    refine x_goto hC dX5_isProduct_28 (tgt := 32) rfl ?_
    exact x_zret hC hr rfl dX5_isProduct_32 (by (try dsimp only); omega) (by (try dsimp only); omega) (by first | exact ⟨by rw [hno]; rfl, hx3, hs3⟩ | exact ⟨by rw [hys]; rfl, hx3, hs3⟩ | exact ⟨by rw [hys]; rfl, hx2, hs2⟩ | exact ⟨by rw [hys]; rfl, hx1, hs1⟩)
  have hb0 : hdS tk 47 = false := by
    cases hb : hdS tk 47 with
    | false => rfl
    | true => rw [hb] at h15; exact absurd (show b01 true = 0 from h15) (by decide)
  refine x_aloadr_n hC dX5_isProduct_18 (q := 19) rfl rfl ?_
  refine x_bipush hC dX5_isProduct_19 (q := 21) rfl (v := (37)) (by decide) ?_
  refine x_callV hC xv_X5_93 dX5_isProduct_21 (q := 24) rfl rfl (m_X5_isSign h0 _ (hE.px hx2) hs2 (c := 37) (by decide) (cz := 0) (sz := 0) sR_t) (nn := (60, 0)) hc2 rfl rfl (Nat.le_of_ble_eq_true rfl) ⟨(Nat.le_of_ble_eq_true rfl), (Nat.le_of_ble_eq_true rfl)⟩ ⟨(by (try dsimp only); omega), (by (try dsimp only); omega)⟩ (fun v g1 hp => ?_)
  obtain ⟨rfl, hy3, hs3⟩ := hp
  have hx3 := hx2.trans hy3
  obtain ⟨fs3, hc3⟩ := hs3.cell
  refine x_if_eq hC dX5_isProduct_24 (q := 27) rfl (tgt := 31) rfl (fun h24 => ?_) (fun h24 => ?_)
  · have hno : isP tk = false := by
      cases hb : hdS tk 37 with
      | false => unfold isP; rw [ha, hb0, hb]; rfl
      | true => rw [hb] at h24; exact absurd (show b01 true = 0 from h24) (by decide)
    refine x_iconst hC dX5_isProduct_31 (q := 32) rfl (v := (0)) (by decide) ?_
    exact x_zret hC hr rfl dX5_isProduct_32 (by (try dsimp only); omega) (by (try dsimp only); omega) (by first | exact ⟨by rw [hno]; rfl, hx3, hs3⟩ | exact ⟨by rw [hys]; rfl, hx3, hs3⟩ | exact ⟨by rw [hys]; rfl, hx2, hs2⟩ | exact ⟨by rw [hys]; rfl, hx1, hs1⟩)
  have hys : isP tk = true := by
    cases hb : hdS tk 37 with
    | true => unfold isP; rw [ha, hb0, hb]; rfl
    | false => rw [hb] at h24; exact absurd (show b01 false = 0 from rfl) (fun q => h24 q)
  refine x_iconst hC dX5_isProduct_27 (q := 28) rfl (v := (1)) (by decide) ?_
  refine x_goto hC dX5_isProduct_28 (tgt := 32) rfl ?_
  exact x_zret hC hr rfl dX5_isProduct_32 (by (try dsimp only); omega) (by (try dsimp only); omega) (by first | exact ⟨by rw [hno]; rfl, hx3, hs3⟩ | exact ⟨by rw [hys]; rfl, hx3, hs3⟩ | exact ⟨by rw [hys]; rfl, hx2, hs2⟩ | exact ⟨by rw [hys]; rfl, hx1, hs1⟩)
