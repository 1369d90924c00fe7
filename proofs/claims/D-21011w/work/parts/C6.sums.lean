/-! sums, and who stands in a kiln -/
def sm (f : Nat → Nat) : Nat → Nat
  | 0 => 0
  | n + 1 => sm f n + f n
theorem sm_ext {f g : Nat → Nat} : ∀ {n : Nat}, (∀ j, j < n → f j = g j) → sm f n = sm g n
  | 0, _ => rfl
  | n + 1, h => by
    show sm f n + f n = sm g n + g n
    rw [sm_ext (fun j hj => h j (by omega)), h n (by omega)]
theorem sm_z : ∀ n, sm (fun _ => 0) n = 0
  | 0 => rfl
  | n + 1 => by show sm (fun _ => 0) n + 0 = 0; rw [sm_z n]
theorem sm_add (f g : Nat → Nat) : ∀ n, sm (fun j => f j + g j) n = sm f n + sm g n
  | 0 => rfl
  | n + 1 => by
    show sm (fun j => f j + g j) n + (f n + g n) = (sm f n + f n) + (sm g n + g n)
    rw [sm_add f g n]; omega
theorem sm_swap (f : Nat → Nat → Nat) (m : Nat) : ∀ n, sm (fun i => sm (f i) m) n = sm (fun j => sm (fun i => f i j) n) m
  | 0 => (sm_z m).symm
  | n + 1 => by
    show sm (fun i => sm (f i) m) n + sm (f n) m = sm (fun j => sm (fun i => f i j) n + f n j) m
    rw [sm_swap f m n, sm_add]
theorem sm_one (a : Nat) : ∀ n, sm (fun j => if j = a then 1 else 0) n = if a < n then 1 else 0
  | 0 => by rw [if_neg (Nat.not_lt_zero a)]; rfl
  | n + 1 => by
    show sm (fun j => if j = a then 1 else 0) n + (if n = a then 1 else 0) = _
    rw [sm_one a n]
    by_cases h1 : a < n
    · rw [if_pos h1, if_neg (by omega), if_pos (by omega)]
    · by_cases h2 : n = a
      · rw [if_neg h1, if_pos h2, if_pos (by omega)]
      · rw [if_neg h1, if_neg h2, if_neg (by omega)]
theorem kCn_s (b : Nat → Bool) (n : Nat) : kCn b (n + 1) = kCn b n + (if b n then 1 else 0) := by
  show (if b n = true then kCn b n + 1 else kCn b n) = _
  cases b n <;> rfl
theorem kCn_sm (b : Nat → Bool) : ∀ n, kCn b n = sm (fun j => if b j then 1 else 0) n
  | 0 => rfl
  | n + 1 => by
    show _ = sm (fun j => if b j then 1 else 0) n + (if b n then 1 else 0)
    rw [← kCn_sm b n, kCn_s]
theorem kCnt_sm (o : Nat → Option Nat) : ∀ n, kCnt o n = sm (fun j => if (o j).isSome then 1 else 0) n
  | 0 => rfl
  | n + 1 => by
    show kCnt o n + _ = sm (fun j => if (o j).isSome then 1 else 0) n + (if (o n).isSome then 1 else 0)
    rw [← kCnt_sm o n]
    cases o n <;> rfl
/-- a kiln holds so many -/
def kNk (σ : KS) (q n : Nat) : Nat := sm (fun c => if kO σ 0 c 0 = some q then 1 else 0) n
theorem kFull_n {σ : KS} (hp : KPl σ) (q : Nat) : kFull σ q = kNk σ q (kA σ 61 0) := by
  unfold kFull kNk
  rw [kCnt_sm]
  have h1 : sm (fun p => if (kO σ 1 q p).isSome then 1 else 0) (kA σ 25 q) = sm (fun p => sm (fun c => if kO σ 1 q p = some c then 1 else 0) (kA σ 61 0)) (kA σ 25 q) := sm_ext fun p _ => by
    cases e : kO σ 1 q p with
    | none =>
      rw [sm_ext (g := fun _ => 0) (fun c _ => if_neg (fun w => by cases w)), sm_z]
      rfl
    | some d =>
      have hd := ((hp.1 q p d).mp e).1
      rw [sm_ext (g := fun c => if c = d then 1 else 0) (fun c _ => by
        by_cases w : c = d
        · rw [if_pos w, if_pos (by rw [w])]
        · rw [if_neg w, if_neg (fun v => w (by cases v; rfl))]), sm_one, if_pos hd]
      rfl
  rw [h1, sm_swap]
  refine sm_ext fun c hc => ?_
  by_cases hk : kO σ 0 c 0 = some q
  · obtain ⟨-, p, h2, h3⟩ := hp.2.1 c q hc hk
    rw [if_pos hk, sm_ext (g := fun j => if j = p then 1 else 0) (fun j _ => by
      by_cases w : j = p
      · rw [if_pos w, w, if_pos ((hp.1 q p c).mpr ⟨hc, hk, h3⟩)]
      · rw [if_neg w, if_neg (fun v => w (by have := ((hp.1 q j c).mp v).2.2; omega))]), sm_one, if_pos h2]
  · rw [if_neg hk, sm_ext (g := fun _ => 0) (fun j _ => if_neg (fun v => hk ((hp.1 q j c).mp v).2.1)), sm_z]
/-- all who stand in a kiln -/
def kNa (σ : KS) (nc k : Nat) : Nat := sm (fun q => kNk σ q nc) k
theorem kNa_n {σ : KS} (hp : KPl σ) : kNa σ (kA σ 61 0) (kA σ 62 0) = kCn (fun h => (kO σ 0 h 0).isSome) (kA σ 61 0) := by
  rw [kCn_sm]
  unfold kNa kNk
  rw [sm_swap]
  refine sm_ext fun c hc => ?_
  cases e : kO σ 0 c 0 with
  | none =>
    rw [sm_ext (g := fun _ => 0) (fun j _ => if_neg (fun w => by cases w)), sm_z]
    rfl
  | some d =>
    have hd := (hp.2.1 c d hc e).1
    rw [sm_ext (g := fun j => if j = d then 1 else 0) (fun j _ => by
      by_cases w : j = d
      · rw [if_pos w, if_pos (by rw [w])]
      · rw [if_neg w, if_neg (fun v => w (by cases v; rfl))]), sm_one, if_pos hd]
    rfl
theorem nI_t {b : Bool} {k : Nat} {x : Int32} (h : x = if b then 1 else 0) (B : Nat → Bool) (hb : B k = b) : nI (kCn B k) + x = nI (kCn B (k + 1)) := by
  rw [kCn_s, h, hb, ← nI_add]
  cases b <;> rfl
