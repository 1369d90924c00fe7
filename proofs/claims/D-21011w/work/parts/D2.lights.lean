/-! a kiln is lit -/
theorem DC.eq {σ σ1 : KS} {V : Nat → Nat → Int32} {c : Nat} (h : DC σ V c) (hO : kO σ1 0 c 0 = kO σ 0 c 0) (h33 : kI σ1 33 c = kI σ 33 c) (h34 : kI σ1 34 c = kI σ 34 c) (h35 : ∀ k, kI σ1 35 k = kI σ 35 k) (h61 : kA σ1 61 0 = kA σ 61 0) : DC σ1 V c := by
  have hk : kKil σ1 c = kKil σ c := by unfold kKil; rw [hO]
  have hc : ∀ S, kCl σ1 S ↔ kCl σ S := fun S => by unfold kCl; rw [h61]; simp only [h35]
  have hb : ∀ S, kBr σ1 c S ↔ kBr σ c S := fun S => by unfold kBr; simp only [hc]
  unfold DC
  rw [hk, h33, h34]
  obtain ⟨a1, a2, a3, a4, a5, a6⟩ := h
  exact ⟨a1, a2, a3, a4, a5, fun w => (hb _).mpr (a6 w)⟩
theorem nI_nm1 {n : Nat} (h : n < 100000) : ¬ nI n = -1 := fun e => by
  have h2 := congrArg Int32.toInt e
  rw [nI_toInt (by omega), show ((-1 : Int32)).toInt = -1 by decide] at h2
  omega
theorem DS.eq {σ σ1 : KS} {α : aA} {I : Nat → Int32} {V : Nat → Nat → Int32} {M : Nat → Nat → Nat → Int32} (hok : aOk α) (h : DS σ α I V M (-1) (-1)) (bc bq : Int32) (e3 : kI σ1 3 0 = kI σ 3 0) (e7 : kI σ1 7 0 = kI σ 7 0) (e63 : kA σ1 63 0 = kA σ 63 0) (e61 : kA σ1 61 0 = kA σ 61 0) (eV : ∀ k j, kV σ1 2 k j = kV σ 2 k j) (e35 : ∀ k, kI σ1 35 k = kI σ 35 k) (eC : ∀ c, c < aI α 0 → ¬ nI c = bc → kO σ1 0 c 0 = kO σ 0 c 0 ∧ kI σ1 33 c = kI σ 33 c ∧ kI σ1 34 c = kI σ 34 c) (e25 : ∀ q, kA σ1 25 q = kA σ 25 q) (e41 : ∀ q, q < aI α 1 → ¬ nI q = bq → kI σ1 41 q = kI σ 41 q) : DS σ1 α I V M bc bq := by
  obtain ⟨a0, a1, a2, a3, a4, a5, a6⟩ := h
  have hb0 := hok.1
  have hb1 := hok.2.1
  refine ⟨by rw [e7]; exact a0, by rw [e63]; exact a1, by rw [e3]; exact a2, by rw [e63]; exact a3, fun k hk j hj => by rw [eV]; exact a4 k (by rw [← e63]; exact hk) j hj, fun c hc hne => ?_, fun q hq => ⟨by rw [e25]; exact (a6 q hq).1, fun hne => by rw [e41 q hq hne]; exact (a6 q hq).2 (nI_nm1 (by omega))⟩⟩
  obtain ⟨b1, b2, b3⟩ := eC c hc hne
  exact (a5 c hc (nI_nm1 (by omega))).eq b1 b2 b3 e35 e61
theorem LT.eq {σ σ1 : KS} {α : aA} (h : LT σ α) (e61 : kA σ1 61 0 = kA σ 61 0) (e62 : kA σ1 62 0 = kA σ 62 0) (e31 : ∀ c, kI σ1 31 c = kI σ 31 c) (e32 : ∀ c, kI σ1 32 c = kI σ 32 c) (e25 : ∀ q, kA σ1 25 q = kA σ 25 q) : LT σ1 α := by
  obtain ⟨a1, a2, a3, a4⟩ := h
  exact ⟨e61.trans a1, e62.trans a2, fun c hc => by rw [e31, e32]; exact a3 c hc, fun q hq => by rw [e25]; exact a4 q hq⟩
theorem kKp.DS {σ σ1 : KS} {d0 : Nat} (hk : kKp σ σ1 d0) {α : aA} {I : Nat → Int32} {V : Nat → Nat → Int32} {M : Nat → Nat → Nat → Int32} (hok : aOk α) (h : DS σ α I V M (-1) (-1)) : DS σ1 α I V M (-1) (-1) :=
  h.eq hok (-1) (-1) (hk.I rfl 0) (hk.I rfl 0) (hk.A rfl 0) (hk.A rfl 0) (fun k j => hk.V rfl k j) (fun k => hk.I rfl k) (fun c _ _ => ⟨by rw [hk.O], hk.I rfl c, hk.I rfl c⟩) (fun q => hk.A rfl q) (fun q _ _ => hk.I rfl q)
theorem kKp.LT {σ σ1 : KS} {d0 : Nat} (hk : kKp σ σ1 d0) {α : aA} (h : LT σ α) : LT σ1 α := h.eq (hk.A rfl 0) (hk.A rfl 0) (fun c => hk.I rfl c) (fun c => hk.I rfl c) (fun q => hk.A rfl q)
/-- one more is refused -/
def kRf (σ : KS) : KS := kVs σ 1 0 3 (kV σ 1 0 3 + 1)
theorem kRf_DS {σ : KS} {α : aA} {I : Nat → Int32} {V : Nat → Nat → Int32} {M : Nat → Nat → Nat → Int32} (hok : aOk α) (h : DS σ α I V M (-1) (-1)) : DS (kRf σ) α I V M (-1) (-1) :=
  h.eq hok (-1) (-1) rfl rfl rfl rfl (fun _ _ => rfl) (fun _ => rfl) (fun _ _ _ => ⟨rfl, rfl, rfl⟩) (fun _ => rfl) (fun _ _ _ => rfl)
