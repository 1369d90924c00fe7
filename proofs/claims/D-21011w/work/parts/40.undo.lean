/-! undo -/
section XU2
variable {p : Program} {l : Launch} {e : Env} {R : Room} {s : State} {m : MethodId} {args : Array Value} {below : List Frame} {meth : Method} {c : Code} {s0 : State} {D : va_G} {Q : State → Prop} {cells slots : Nat} {g : xG} {own : String} {cc : ByteArray} {pc q : Nat} {lv : xL} {st : List Value}
/-- a call whose entry names x, and that y answers -/
def xUq (own : String) (idx : Nat) (C : String) (x y : MethodName) (b : ByteArray) (L : Nat) (r : Option FieldType) (n : Nat) : Prop := GoodIn lw_all (va_wsU own idx C y.cls x y (ws_ y b L r)) ∧ y = ⟨y.cls, x.name, x.desc⟩ ∧ y.cls ≠ "java/lang/invoke/MethodHandle" ∧ y.cls ≠ "java/lang/invoke/VarHandle" ∧ (parseMethodDescriptor x.desc).map (fun d => d.parameters.length) = some n
theorem lw_U2 {own C : String} {idx : Nat} {x y : MethodName} {b : ByteArray} {L : Nat} {r : Option FieldType} (h1 : Cond.methodLink own idx x ∈ lw_all) (h2 : Cond.sameMethod x.cls y.cls x.name x.desc ∈ lw_all) (h3 : Cond.selects C x y ∈ lw_all) (h4 : Cond.instanceMethod y ∈ lw_all) (h5 : Cond.initialized y.cls ∈ lw_all) (h6 : Cond.code y b L r ∈ lw_all) : GoodIn lw_all (va_wsU own idx C y.cls x y (ws_ y b L r)) := by
  refine lw_app ?_ (lw_meth h6)
  intro w hw
  simp only [List.mem_cons, List.not_mem_nil, or_false] at hw
  rcases hw with e | e | e | e | e
  · rw [e]; exact h1
  · rw [e]; exact h2
  · rw [e]; exact h3
  · rw [e]; exact h4
  · rw [e]; exact h5
theorem x_callU2 (hC : xC p l s0 s D m args meth c own cc) {idx n L a : Nat} {C : String} {x y : MethodName} {b : ByteArray} {r : Option FieldType} {rm : Room} {As rest : List Value} {nn : xN} {ci : Nat} {fs : List Value} {post : Option Value → xG → Prop} (hv : xUq own idx C x y b L r n) (d : decode cc pc = .ok (.invokevirtual idx, 3)) (hq : pc + 3 = q) (hst : st = As.reverse ++ .ref a :: rest) (hM : xMet l s0 D y b L r rm (.ref a :: As) g post) (hg : g nn = some (a, .inr (ci, fs))) (hx : xnm (.inr (ci, fs)) = C) (hn : As.length = n) (hrest : (rest.map fun v => v.category).sum ≤ 8) (hR : rm.frames + 1 ≤ R.frames ∧ 8 + (L + 11) + rm.locals ≤ R.locals) (hcs : cells + rm.cells ≤ R.cells ∧ slots + rm.slots ≤ R.slots)
    (k : ∀ (v : Option Value) (g' : xG), post v g' → XW p l e R s m args below meth c s0 D Q (cells + rm.cells) (slots + rm.slots) g' q lv (v.toList ++ rest)) (hok : Nat.blt ci 24 = true := by rfl) : XW p l e R s m args below meth c s0 D Q cells slots g pc lv st := by
  refine x_run (a := (Value.ref a :: As).toArray) (fun H locs ls hm hI hl => ?_) hq k
  exact va_runU (owner := y.cls) (hC.fix hm) hM (va_cwU n hC.hts hv.1 rfl rfl rfl hv.2.1 hv.2.2 hR) (xpreV hC hI hg hx As hok) rfl hn hl.1 hst (lv_room hrest) d hcs
end XU2
theorem xv_X23_41 : xUq RX23 41 RX23 ⟨"KilnBench$Act", "isBack", "()V"⟩ yX20_isBack cX20_isBack 3 none 0 := ⟨lw_U2 q2002 q2003 q2005 q1748 q114 q1752, rfl, by decide +kernel, by decide +kernel, by decide +kernel⟩
/-- fewer names behind a call -/
theorem xMet.sub {l : Launch} {s0 : State} {D : va_G} {y : MethodName} {b : ByteArray} {L : Nat} {r : Option FieldType} {rm : Room} {av : List Value} {g : xG} {p1 p2 : Option Value → xG → Prop} (h : xMet l s0 D y b L r rm av g p1) (hp : ∀ v g1, p1 v g1 → ∃ g2 : xG, (∀ n x, g2 n = some x → g1 n = some x) ∧ p2 v g2) : xMet l s0 D y b L r rm av g p2 := by
  intro p e ha hf1 hf2 s m args below hfr hap hP hK
  obtain ⟨n, o, q1, q2, q3, ⟨v, g', c1, c2, c3, c4⟩, q5⟩ := h p e ha hf1 hf2 s m args below hfr hap hP hK
  obtain ⟨g2, e1, e2⟩ := hp v g' c2
  exact ⟨n, o, q1, q2, q3, ⟨v, g2, c1, e2, c3.sub e1, c4⟩, q5⟩

theorem m_told_clear {l : Launch} {s0 : State} {D : va_G} (h0 : x0 l s0 D) (σ : KS) (gF : xG) (hc : kA σ 63 0 ≤ kA σ 73 0 ∧ kA σ 73 0 < 1048576) : xMet l s0 D yJ3_clear cJ3_clear 4 none (xr 0 0 0 0) [.ref (kA σ 10 0)] (kmix σ gF) (fun r g1 => r = none ∧ g1 = kmix (kAs (kIs σ 16 0 (kI σ 16 0 + 1)) 63 0 0) gF) := by
  have key : ∀ (D1 : Option (Nat × xE)), (0 < kA σ 73 0 → D1 = some (kA σ 11 0, xAr (.object "java/lang/Object") (kA σ 73 0) (fun _ => none))) → ∀ nn x, kmix (kAs (kIs σ 16 0 (kI σ 16 0 + 1)) 63 0 0) gF nn = some x → xu (xu (kmix σ gF) (11, 0) D1) (10, 0) (some (kA σ 10 0, xO 21 [.int (iI (kI σ 16 0) + 1), .ref (kA σ 11 0), .int 0])) nn = some x := by
    intro D1 hD1 nn x hx
    obtain ⟨k, i⟩ := nn
    have ne : ∀ a b, ¬ (a = k ∧ b = i) → (k, i) ≠ (a, b) := fun a b h q => h ⟨(congrArg Prod.fst q).symm, (congrArg Prod.snd q).symm⟩
    cases hb : Nat.blt k 40 with
    | false =>
      rw [kmix_F _ _ (k, i) hb] at hx
      have nb : ∀ a b, Nat.blt a 40 = true → (k, i) ≠ (a, b) := fun a b ha q => by cases q; rw [hb] at ha; cases ha
      rw [xu_ne (nb _ _ rfl), xu_ne (nb _ _ rfl), kmix_F _ _ _ hb]
      exact hx
    | true =>
      rw [kmix_eq _ _ _ _ hb] at hx
      by_cases e2 : (k, i) = (10, 0)
      · cases e2
        rw [xu_eq, ← hx]
        simp [kenc, kI_kIs, kA_kIs, kO_kIs, kV_kIs, kL_kIs, kI_kAs, kA_kAs, kO_kAs, kV_kAs, kL_kAs, ← iI_add]
        decide
      · rw [xu_ne e2]
        by_cases e3 : (k, i) = (11, 0)
        · cases e3
          rw [xu_eq]
          by_cases hp : 0 < kA σ 73 0
          · rw [hD1 hp, ← hx]
            simp [kenc, kI_kIs, kA_kIs, kO_kIs, kV_kIs, kL_kIs, kI_kAs, kA_kAs, kO_kAs, kV_kAs, kL_kAs, hp]
          · simp [kenc, kI_kIs, kA_kIs, kO_kIs, kV_kIs, kL_kIs, kI_kAs, kA_kAs, kO_kAs, kV_kAs, kL_kAs, hp] at hx
        · rw [xu_ne e3, kmix_eq _ _ _ _ hb, ← hx]
          by_cases e4 : k = 12
          · subst e4
            simp only [kenc, kA_kIs, kA_kAs] at hx ⊢
            by_cases h : i < kA σ 60 0
            · have c2 : i < kA σ 63 0 ∨ i < kA σ 60 0 := Or.inr h
              rw [if_pos c2]
              simp [h, kV_kAs, kV_kIs]
            · simp [h] at hx
          unfold kenc
          split <;> simp [kI_kIs, kA_kIs, kO_kIs, kV_kIs, kL_kIs, kI_kAs, kA_kAs, kO_kAs, kV_kAs, kL_kAs]
          all_goals (try rfl)
          all_goals (try (simp at e2 e3))
          all_goals (try (split <;> first | rfl | (exfalso; simp_all; done) | skip))
          all_goals first | exact absurd rfl e4 | exact absurd (by decide) e4
  by_cases hp : 0 < kA σ 73 0
  · refine (m_J3_clear_A h0 (kmix σ gF) (n := (10, 0)) (nd := (11, 0)) rfl rfl (by decide) rfl (kg_11 hp) hc.1 (by omega) (fun j hj => if_neg (by omega))).sub (fun r g1 hpost => ⟨_, ?_, hpost.1, rfl⟩)
    rw [hpost.2]
    exact key _ (fun _ => rfl)
  · have hs0 : kA σ 63 0 = 0 := by omega
    refine (m_J3_clear_0 h0 (kmix σ gF) (n := (10, 0)) (mc := iI (kI σ 16 0)) (d := kA σ 11 0) rfl (by rw [kmix_eq _ _ _ _ rfl]; show some (_, xO 21 [_, _, .int (nI (kA σ 63 0))]) = _; rw [hs0]; rfl)).sub (fun r g1 hpost => ⟨_, ?_, hpost.1, rfl⟩)
    rw [hpost.2]
    have := key none (fun q => absurd q hp)
    rw [xu_self (g := kmix σ gF) (n := (11, 0)) (by rw [kmix_eq _ _ _ _ rfl]; exact if_neg hp)] at this
    exact this

theorem m_seen_clear {l : Launch} {s0 : State} {D : va_G} (h0 : x0 l s0 D) (σ : KS) (gF : xG) (hc : kA σ 64 0 ≤ kA σ 74 0 ∧ kA σ 74 0 < 1048576) : xMet l s0 D yJ3_clear cJ3_clear 4 none (xr 0 0 0 0) [.ref (kA σ 13 0)] (kmix σ gF) (fun r g1 => r = none ∧ g1 = kmix (kAs (kIs σ 17 0 (kI σ 17 0 + 1)) 64 0 0) gF) := by
  have key : ∀ (D1 : Option (Nat × xE)), (0 < kA σ 74 0 → D1 = some (kA σ 14 0, xAr (.object "java/lang/Object") (kA σ 74 0) (fun _ => none))) → ∀ nn x, kmix (kAs (kIs σ 17 0 (kI σ 17 0 + 1)) 64 0 0) gF nn = some x → xu (xu (kmix σ gF) (14, 0) D1) (13, 0) (some (kA σ 13 0, xO 21 [.int (iI (kI σ 17 0) + 1), .ref (kA σ 14 0), .int 0])) nn = some x := by
    intro D1 hD1 nn x hx
    obtain ⟨k, i⟩ := nn
    have ne : ∀ a b, ¬ (a = k ∧ b = i) → (k, i) ≠ (a, b) := fun a b h q => h ⟨(congrArg Prod.fst q).symm, (congrArg Prod.snd q).symm⟩
    cases hb : Nat.blt k 40 with
    | false =>
      rw [kmix_F _ _ (k, i) hb] at hx
      have nb : ∀ a b, Nat.blt a 40 = true → (k, i) ≠ (a, b) := fun a b ha q => by cases q; rw [hb] at ha; cases ha
      rw [xu_ne (nb _ _ rfl), xu_ne (nb _ _ rfl), kmix_F _ _ _ hb]
      exact hx
    | true =>
      rw [kmix_eq _ _ _ _ hb] at hx
      by_cases e2 : (k, i) = (13, 0)
      · cases e2
        rw [xu_eq, ← hx]
        simp [kenc, kI_kIs, kA_kIs, kO_kIs, kV_kIs, kL_kIs, kI_kAs, kA_kAs, kO_kAs, kV_kAs, kL_kAs, ← iI_add]
        decide
      · rw [xu_ne e2]
        by_cases e3 : (k, i) = (14, 0)
        · cases e3
          rw [xu_eq]
          by_cases hp : 0 < kA σ 74 0
          · rw [hD1 hp, ← hx]
            simp [kenc, kI_kIs, kA_kIs, kO_kIs, kV_kIs, kL_kIs, kI_kAs, kA_kAs, kO_kAs, kV_kAs, kL_kAs, hp]
          · simp [kenc, kI_kIs, kA_kIs, kO_kIs, kV_kIs, kL_kIs, kI_kAs, kA_kAs, kO_kAs, kV_kAs, kL_kAs, hp] at hx
        · rw [xu_ne e3, kmix_eq _ _ _ _ hb, ← hx]
          by_cases e4 : k = 15
          · subst e4
            simp [kenc, kA_kIs, kA_kAs] at hx
          unfold kenc
          split <;> simp [kI_kIs, kA_kIs, kO_kIs, kV_kIs, kL_kIs, kI_kAs, kA_kAs, kO_kAs, kV_kAs, kL_kAs]
          all_goals (try rfl)
          all_goals (try (simp at e2 e3))
          all_goals (try (split <;> first | rfl | (exfalso; simp_all; done) | skip))
          all_goals first | exact absurd rfl e4 | exact absurd (by decide) e4
  by_cases hp : 0 < kA σ 74 0
  · refine (m_J3_clear_A h0 (kmix σ gF) (n := (13, 0)) (nd := (14, 0)) rfl rfl (by decide) rfl (kg_14 hp) hc.1 (by omega) (fun j hj => if_neg (by omega))).sub (fun r g1 hpost => ⟨_, ?_, hpost.1, rfl⟩)
    rw [hpost.2]
    exact key _ (fun _ => rfl)
  · have hs0 : kA σ 64 0 = 0 := by omega
    refine (m_J3_clear_0 h0 (kmix σ gF) (n := (13, 0)) (mc := iI (kI σ 17 0)) (d := kA σ 14 0) rfl (by rw [kmix_eq _ _ _ _ rfl]; show some (_, xO 21 [_, _, .int (nI (kA σ 64 0))]) = _; rw [hs0]; rfl)).sub (fun r g1 hpost => ⟨_, ?_, hpost.1, rfl⟩)
    rw [hpost.2]
    have := key none (fun q => absurd q hp)
    rw [xu_self (g := kmix σ gF) (n := (14, 0)) (by rw [kmix_eq _ _ _ _ rfl]; exact if_neg hp)] at this
    exact this

theorem m_acts_clear {l : Launch} {s0 : State} {D : va_G} (h0 : x0 l s0 D) (σ : KS) (gF : xG) (hc : kA σ 65 0 ≤ kA σ 75 0 ∧ kA σ 75 0 < 1048576) : xMet l s0 D yJ3_clear cJ3_clear 4 none (xr 0 0 0 0) [.ref (kA σ 16 0)] (kmix σ gF) (fun r g1 => r = none ∧ g1 = kmix (kAs (kIs σ 18 0 (kI σ 18 0 + 1)) 65 0 0) gF) := by
  have key : ∀ (D1 : Option (Nat × xE)), (0 < kA σ 75 0 → D1 = some (kA σ 17 0, xAr (.object "java/lang/Object") (kA σ 75 0) (fun _ => none))) → ∀ nn x, kmix (kAs (kIs σ 18 0 (kI σ 18 0 + 1)) 65 0 0) gF nn = some x → xu (xu (kmix σ gF) (17, 0) D1) (16, 0) (some (kA σ 16 0, xO 21 [.int (iI (kI σ 18 0) + 1), .ref (kA σ 17 0), .int 0])) nn = some x := by
    intro D1 hD1 nn x hx
    obtain ⟨k, i⟩ := nn
    have ne : ∀ a b, ¬ (a = k ∧ b = i) → (k, i) ≠ (a, b) := fun a b h q => h ⟨(congrArg Prod.fst q).symm, (congrArg Prod.snd q).symm⟩
    cases hb : Nat.blt k 40 with
    | false =>
      rw [kmix_F _ _ (k, i) hb] at hx
      have nb : ∀ a b, Nat.blt a 40 = true → (k, i) ≠ (a, b) := fun a b ha q => by cases q; rw [hb] at ha; cases ha
      rw [xu_ne (nb _ _ rfl), xu_ne (nb _ _ rfl), kmix_F _ _ _ hb]
      exact hx
    | true =>
      rw [kmix_eq _ _ _ _ hb] at hx
      by_cases e2 : (k, i) = (16, 0)
      · cases e2
        rw [xu_eq, ← hx]
        simp [kenc, kI_kIs, kA_kIs, kO_kIs, kV_kIs, kL_kIs, kI_kAs, kA_kAs, kO_kAs, kV_kAs, kL_kAs, ← iI_add]
        decide
      · rw [xu_ne e2]
        by_cases e3 : (k, i) = (17, 0)
        · cases e3
          rw [xu_eq]
          by_cases hp : 0 < kA σ 75 0
          · rw [hD1 hp, ← hx]
            simp [kenc, kI_kIs, kA_kIs, kO_kIs, kV_kIs, kL_kIs, kI_kAs, kA_kAs, kO_kAs, kV_kAs, kL_kAs, hp]
          · simp [kenc, kI_kIs, kA_kIs, kO_kIs, kV_kIs, kL_kIs, kI_kAs, kA_kAs, kO_kAs, kV_kAs, kL_kAs, hp] at hx
        · rw [xu_ne e3, kmix_eq _ _ _ _ hb, ← hx]
          by_cases e4 : 30 ≤ k ∧ k ≤ 34
          · have hc : k = 30 ∨ k = 31 ∨ k = 32 ∨ k = 33 ∨ k = 34 := by omega
            rcases hc with rfl | rfl | rfl | rfl | rfl
            all_goals simp [kenc, kA_kIs, kA_kAs] at hx
          unfold kenc
          split <;> simp [kI_kIs, kA_kIs, kO_kIs, kV_kIs, kL_kIs, kI_kAs, kA_kAs, kO_kAs, kV_kAs, kL_kAs]
          all_goals (try rfl)
          all_goals (try (simp at e2 e3))
          all_goals (try (split <;> first | rfl | (exfalso; simp_all; done) | skip))
          all_goals first | exact absurd rfl e4 | exact absurd (by decide) e4
  by_cases hp : 0 < kA σ 75 0
  · refine (m_J3_clear_A h0 (kmix σ gF) (n := (16, 0)) (nd := (17, 0)) rfl rfl (by decide) rfl (kg_17 hp) hc.1 (by omega) (fun j hj => if_neg (by omega))).sub (fun r g1 hpost => ⟨_, ?_, hpost.1, rfl⟩)
    rw [hpost.2]
    exact key _ (fun _ => rfl)
  · have hs0 : kA σ 65 0 = 0 := by omega
    refine (m_J3_clear_0 h0 (kmix σ gF) (n := (16, 0)) (mc := iI (kI σ 18 0)) (d := kA σ 17 0) rfl (by rw [kmix_eq _ _ _ _ rfl]; show some (_, xO 21 [_, _, .int (nI (kA σ 65 0))]) = _; rw [hs0]; rfl)).sub (fun r g1 hpost => ⟨_, ?_, hpost.1, rfl⟩)
    rw [hpost.2]
    have := key none (fun q => absurd q hp)
    rw [xu_self (g := kmix σ gF) (n := (17, 0)) (by rw [kmix_eq _ _ _ _ rfl]; exact if_neg hp)] at this
    exact this
