/-! THE STATE of KilnBench: KS, encoded by kenc into the names of kinds 0 .. 39; kmix: with a frame -/
abbrev KS : Type := (Nat → Nat → Int) × (Nat → Nat → Nat) × (Nat → Nat → Nat → Option Nat) × (Nat → Nat → Nat → Int) × (Nat → Nat → Int64)
def kI (σ : KS) (f k : Nat) : Int := σ.1 f k
def kA (σ : KS) (f k : Nat) : Nat := σ.2.1 f k
def kO (σ : KS) (f k j : Nat) : Option Nat := σ.2.2.1 f k j
def kV (σ : KS) (f k j : Nat) : Int := σ.2.2.2.1 f k j
def kL (σ : KS) (f j : Nat) : Int64 := σ.2.2.2.2 f j
def kIs (σ : KS) (f k : Nat) (v : Int) : KS := (fun f' k' => if f' = f ∧ k' = k then v else σ.1 f' k', σ.2)
def kAs (σ : KS) (f k : Nat) (v : Nat) : KS := (σ.1, fun f' k' => if f' = f ∧ k' = k then v else σ.2.1 f' k', σ.2.2)
def kOs (σ : KS) (f k j : Nat) (v : Option Nat) : KS := (σ.1, σ.2.1, fun f' k' j' => if f' = f ∧ k' = k ∧ j' = j then v else σ.2.2.1 f' k' j', σ.2.2.2)
def kVs (σ : KS) (f k j : Nat) (v : Int) : KS := (σ.1, σ.2.1, σ.2.2.1, fun f' k' j' => if f' = f ∧ k' = k ∧ j' = j then v else σ.2.2.2.1 f' k' j', σ.2.2.2.2)
def kLs (σ : KS) (f j : Nat) (v : Int64) : KS := (σ.1, σ.2.1, σ.2.2.1, σ.2.2.2.1, fun f' j' => if f' = f ∧ j' = j then v else σ.2.2.2.2 f' j')
theorem kI_kIs (σ : KS) (f k f' k' : Nat) (v : Int) : kI (kIs σ f k v) f' k' = if f' = f ∧ k' = k then v else kI σ f' k' := rfl
theorem kA_kIs (σ : KS) (f k : Nat) (v : Int) : kA (kIs σ f k v) = kA σ := rfl
theorem kO_kIs (σ : KS) (f k : Nat) (v : Int) : kO (kIs σ f k v) = kO σ := rfl
theorem kV_kIs (σ : KS) (f k : Nat) (v : Int) : kV (kIs σ f k v) = kV σ := rfl
theorem kL_kIs (σ : KS) (f k : Nat) (v : Int) : kL (kIs σ f k v) = kL σ := rfl
theorem kI_kAs (σ : KS) (f k : Nat) (v : Nat) : kI (kAs σ f k v) = kI σ := rfl
theorem kA_kAs (σ : KS) (f k f' k' : Nat) (v : Nat) : kA (kAs σ f k v) f' k' = if f' = f ∧ k' = k then v else kA σ f' k' := rfl
theorem kO_kAs (σ : KS) (f k : Nat) (v : Nat) : kO (kAs σ f k v) = kO σ := rfl
theorem kV_kAs (σ : KS) (f k : Nat) (v : Nat) : kV (kAs σ f k v) = kV σ := rfl
theorem kL_kAs (σ : KS) (f k : Nat) (v : Nat) : kL (kAs σ f k v) = kL σ := rfl
theorem kI_kOs (σ : KS) (f k j : Nat) (v : Option Nat) : kI (kOs σ f k j v) = kI σ := rfl
theorem kA_kOs (σ : KS) (f k j : Nat) (v : Option Nat) : kA (kOs σ f k j v) = kA σ := rfl
theorem kO_kOs (σ : KS) (f k j f' k' j' : Nat) (v : Option Nat) : kO (kOs σ f k j v) f' k' j' = if f' = f ∧ k' = k ∧ j' = j then v else kO σ f' k' j' := rfl
theorem kV_kOs (σ : KS) (f k j : Nat) (v : Option Nat) : kV (kOs σ f k j v) = kV σ := rfl
theorem kL_kOs (σ : KS) (f k j : Nat) (v : Option Nat) : kL (kOs σ f k j v) = kL σ := rfl
theorem kI_kVs (σ : KS) (f k j : Nat) (v : Int) : kI (kVs σ f k j v) = kI σ := rfl
theorem kA_kVs (σ : KS) (f k j : Nat) (v : Int) : kA (kVs σ f k j v) = kA σ := rfl
theorem kO_kVs (σ : KS) (f k j : Nat) (v : Int) : kO (kVs σ f k j v) = kO σ := rfl
theorem kV_kVs (σ : KS) (f k j f' k' j' : Nat) (v : Int) : kV (kVs σ f k j v) f' k' j' = if f' = f ∧ k' = k ∧ j' = j then v else kV σ f' k' j' := rfl
theorem kL_kVs (σ : KS) (f k j : Nat) (v : Int) : kL (kVs σ f k j v) = kL σ := rfl
theorem kI_kLs (σ : KS) (f j : Nat) (v : Int64) : kI (kLs σ f j v) = kI σ := rfl
theorem kA_kLs (σ : KS) (f j : Nat) (v : Int64) : kA (kLs σ f j v) = kA σ := rfl
theorem kO_kLs (σ : KS) (f j : Nat) (v : Int64) : kO (kLs σ f j v) = kO σ := rfl
theorem kV_kLs (σ : KS) (f j : Nat) (v : Int64) : kV (kLs σ f j v) = kV σ := rfl
theorem kL_kLs (σ : KS) (f j f' j' : Nat) (v : Int64) : kL (kLs σ f j v) f' j' = if f' = f ∧ j' = j then v else kL σ f' j' := rfl
def kenc (σ : KS) (k i : Nat) : Option (Nat × xE) := match k with
  | 0 => match i with
    | 0 => some (kA σ 0 0, xO 1 [.ref (kA σ 1 0), .int (iI (kI σ 0 0)), .ref (kA σ 2 0), .ref (kA σ 3 0), .int (iI (kI σ 1 0)), .int (iI (kI σ 2 0)), .int (iI (kI σ 3 0)), .ref (kA σ 10 0), .ref (kA σ 13 0), .ref (kA σ 8 0), .int (iI (kI σ 4 0)), .int (iI (kI σ 5 0)), .ref (kA σ 16 0), .long (kL σ 1 0), .ref (kA σ 18 0), .int (iI (kI σ 6 0))])
    | _ => none
  | 1 => match i with
    | 0 => some (kA σ 1 0, xAi .char 1600 (fun j => iI (kV σ 0 0 j)))
    | _ => none
  | 2 => match i with
    | 0 => some (kA σ 2 0, xAi .int 6 (fun j => iI (kV σ 1 0 j)))
    | _ => none
  | 3 => match i with
    | 0 => some (kA σ 3 0, xO 2 [.int (iI (kI σ 7 0)), .int (iI (kI σ 8 0)), .int (iI (kI σ 9 0)), .int (iI (kI σ 10 0)), va_rf (kO σ 2 0 0), va_rf (kO σ 2 1 0), va_rf (kO σ 2 2 0), va_rf (kO σ 2 3 0), .ref (kA σ 4 0), .ref (kA σ 6 0)])
    | _ => none
  | 4 => match i with
    | 0 => some (kA σ 4 0, xO 21 [.int (iI (kI σ 19 0)), .ref (kA σ 5 0), .int (nI (kA σ 61 0))])
    | _ => none
  | 5 => match i with
    | 0 => if 0 < kA σ 71 0 then some (kA σ 5 0, xAr (.object "java/lang/Object") (kA σ 71 0) (fun j => if j < kA σ 61 0 then some (kA σ 20 j) else none)) else none
    | _ => none
  | 6 => match i with
    | 0 => some (kA σ 6 0, xO 21 [.int (iI (kI σ 20 0)), .ref (kA σ 7 0), .int (nI (kA σ 62 0))])
    | _ => none
  | 7 => match i with
    | 0 => if 0 < kA σ 72 0 then some (kA σ 7 0, xAr (.object "java/lang/Object") (kA σ 72 0) (fun j => if j < kA σ 62 0 then some (kA σ 21 j) else none)) else none
    | _ => none
  | 8 => match i with
    | 0 => some (kA σ 8 0, xO 3 [.ref (kA σ 9 0)])
    | _ => none
  | 9 => match i with
    | 0 => some (kA σ 9 0, xAl 10 (fun j => kL σ 0 j))
    | _ => none
  | 10 => match i with
    | 0 => some (kA σ 10 0, xO 21 [.int (iI (kI σ 16 0)), .ref (kA σ 11 0), .int (nI (kA σ 63 0))])
    | _ => none
  | 11 => match i with
    | 0 => if 0 < kA σ 73 0 then some (kA σ 11 0, xAr (.object "java/lang/Object") (kA σ 73 0) (fun j => if j < kA σ 63 0 then some (kA σ 12 j) else none)) else none
    | _ => none
  | 12 => if i < kA σ 63 0 ∨ i < kA σ 60 0 then some (kA σ 12 i, xAi .int 4 (fun j => iI (kV σ 2 i j))) else none
  | 13 => match i with
    | 0 => some (kA σ 13 0, xO 21 [.int (iI (kI σ 17 0)), .ref (kA σ 14 0), .int (nI (kA σ 64 0))])
    | _ => none
  | 14 => match i with
    | 0 => if 0 < kA σ 74 0 then some (kA σ 14 0, xAr (.object "java/lang/Object") (kA σ 74 0) (fun j => if j < kA σ 64 0 then some (kA σ 15 j) else none)) else none
    | _ => none
  | 15 => if i < kA σ 64 0 then some (kA σ 15 i, xAi .int 3 (fun j => iI (kV σ 3 i j))) else none
  | 16 => match i with
    | 0 => some (kA σ 16 0, xO 21 [.int (iI (kI σ 18 0)), .ref (kA σ 17 0), .int (nI (kA σ 65 0))])
    | _ => none
  | 17 => match i with
    | 0 => if 0 < kA σ 75 0 then some (kA σ 17 0, xAr (.object "java/lang/Object") (kA σ 75 0) (fun j => if j < kA σ 65 0 then some (kA σ 30 j) else none)) else none
    | _ => none
  | 18 => match i with
    | 0 => some (kA σ 18 0, xAi .char 56 (fun j => iI (kV σ 4 0 j)))
    | _ => none
  | 20 => if i < kA σ 61 0 then some (kA σ 20 i, xO 5 [.ref (kA σ 23 i), .int (nI i), .int (iI (kI σ 31 i)), .int (iI (kI σ 32 i)), .int (iI (kI σ 33 i)), .int (iI (kI σ 34 i)), .int (iI (kI σ 35 i)), va_rf ((kO σ 0 i 0).map (kA σ 21)), .int (iI (kI σ 36 i))]) else none
  | 21 => if i < kA σ 62 0 then some (kA σ 21 i, xO 6 [.ref (kA σ 24 i), .int (nI i), .int (nI (kA σ 25 i)), .int (iI (kI σ 41 i)), .ref (kA σ 22 i)]) else none
  | 22 => if i < kA σ 62 0 then some (kA σ 22 i, xAr (.object "KilnBench$Child") 6 (fun j => (kO σ 1 i j).map (kA σ 20))) else none
  | 30 => if i < kA σ 65 0 then some (kA σ 30 i, xO 20 [.int (iI (kI σ 21 i)), .int (iI (kI σ 22 i)), .ref (kA σ 31 i), .ref (kA σ 32 i), .ref (kA σ 0 0), .ref (kA σ 33 i), .ref (kA σ 0 0)]) else none
  | 31 => if i < kA σ 65 0 then some (kA σ 31 i, xAi .int 40 (fun j => iI (kV σ 5 i j))) else none
  | 32 => if i < kA σ 65 0 then some (kA σ 32 i, xAi .int 3 (fun j => iI (kV σ 6 i j))) else none
  | 33 => if i < kA σ 65 0 then some (kA σ 33 i, xO 21 [.int (iI (kI σ 23 i)), .ref (kA σ 34 i), .int (nI (kA σ 66 i))]) else none
  | 34 => if i < kA σ 65 0 ∧ 0 < kA σ 76 i then some (kA σ 34 i, xAr (.object "java/lang/Object") (kA σ 76 i) (fun j => if j < kA σ 66 i then some (kA σ 12 j) else none)) else none
  | _ => none
def kmix (σ : KS) (gF : xG) : xG := fun n => match Nat.blt n.1 40 with
  | true => kenc σ n.1 n.2
  | false => gF n
theorem kmix_eq (σ : KS) (gF : xG) (k i : Nat) (h : Nat.blt k 40 = true) : kmix σ gF (k, i) = kenc σ k i := by unfold kmix; simp only [h]
theorem kmix_F (σ : KS) (gF : xG) (n : xN) (h : Nat.blt n.1 40 = false) : kmix σ gF n = gF n := by unfold kmix; rw [h]
theorem kmix_xuF (σ : KS) (gF : xG) (n : xN) (x : Option (Nat × xE)) (h : Nat.blt n.1 40 = false) : xu (kmix σ gF) n x = kmix σ (xu gF n x) := by
  funext k
  by_cases e : k = n
  · subst e; rw [xu_eq, kmix_F _ _ _ h, xu_eq]
  · rw [xu_ne e]
    unfold kmix
    cases hb : Nat.blt k.1 40 with
    | true => rfl
    | false => simp only; rw [xu_ne e]
/-- a write into the class's own cells, folded -/
theorem kfold {σ σ' : KS} {gF : xG} {k i : Nat} {x : Option (Nat × xE)} (hk : Nat.blt k 40 = true) (h1 : kenc σ' k i = x) (h2 : ∀ k' i', (k', i') ≠ (k, i) → kenc σ' k' i' = kenc σ k' i') : xu (kmix σ gF) (k, i) x = kmix σ' gF := by
  funext n
  obtain ⟨k', i'⟩ := n
  by_cases e : (k', i') = (k, i)
  · cases e; rw [xu_eq, kmix_eq _ _ _ _ hk, h1]
  · rw [xu_ne e]
    unfold kmix
    cases hb : Nat.blt k' 40 with
    | true => exact (h2 k' i' e).symm
    | false => rfl
theorem kg_5 {σ : KS} {gF : xG} (h : 0 < kA σ 71 0) : kmix σ gF (5, 0) = some (kA σ 5 0, xAr (.object "java/lang/Object") (kA σ 71 0) (fun j => if j < kA σ 61 0 then some (kA σ 20 j) else none)) := by rw [kmix_eq _ _ _ _ rfl]; simp only [kenc, if_pos h]
theorem kg_7 {σ : KS} {gF : xG} (h : 0 < kA σ 72 0) : kmix σ gF (7, 0) = some (kA σ 7 0, xAr (.object "java/lang/Object") (kA σ 72 0) (fun j => if j < kA σ 62 0 then some (kA σ 21 j) else none)) := by rw [kmix_eq _ _ _ _ rfl]; simp only [kenc, if_pos h]
theorem kg_11 {σ : KS} {gF : xG} (h : 0 < kA σ 73 0) : kmix σ gF (11, 0) = some (kA σ 11 0, xAr (.object "java/lang/Object") (kA σ 73 0) (fun j => if j < kA σ 63 0 then some (kA σ 12 j) else none)) := by rw [kmix_eq _ _ _ _ rfl]; simp only [kenc, if_pos h]
theorem kg_14 {σ : KS} {gF : xG} (h : 0 < kA σ 74 0) : kmix σ gF (14, 0) = some (kA σ 14 0, xAr (.object "java/lang/Object") (kA σ 74 0) (fun j => if j < kA σ 64 0 then some (kA σ 15 j) else none)) := by rw [kmix_eq _ _ _ _ rfl]; simp only [kenc, if_pos h]
theorem kg_17 {σ : KS} {gF : xG} (h : 0 < kA σ 75 0) : kmix σ gF (17, 0) = some (kA σ 17 0, xAr (.object "java/lang/Object") (kA σ 75 0) (fun j => if j < kA σ 65 0 then some (kA σ 30 j) else none)) := by rw [kmix_eq _ _ _ _ rfl]; simp only [kenc, if_pos h]
theorem kg_12 {σ : KS} {gF : xG} (i : Nat) (h : i < kA σ 63 0 ∨ i < kA σ 60 0) : kmix σ gF (12, i) = some (kA σ 12 i, xAi .int 4 (fun j => iI (kV σ 2 i j))) := by rw [kmix_eq _ _ _ _ rfl]; simp only [kenc, if_pos h]
theorem kg_15 {σ : KS} {gF : xG} (i : Nat) (h : i < kA σ 64 0) : kmix σ gF (15, i) = some (kA σ 15 i, xAi .int 3 (fun j => iI (kV σ 3 i j))) := by rw [kmix_eq _ _ _ _ rfl]; simp only [kenc, if_pos h]
theorem kg_20 {σ : KS} {gF : xG} (i : Nat) (h : i < kA σ 61 0) : kmix σ gF (20, i) = some (kA σ 20 i, xO 5 [.ref (kA σ 23 i), .int (nI i), .int (iI (kI σ 31 i)), .int (iI (kI σ 32 i)), .int (iI (kI σ 33 i)), .int (iI (kI σ 34 i)), .int (iI (kI σ 35 i)), va_rf ((kO σ 0 i 0).map (kA σ 21)), .int (iI (kI σ 36 i))]) := by rw [kmix_eq _ _ _ _ rfl]; simp only [kenc, if_pos h]
theorem kg_21 {σ : KS} {gF : xG} (i : Nat) (h : i < kA σ 62 0) : kmix σ gF (21, i) = some (kA σ 21 i, xO 6 [.ref (kA σ 24 i), .int (nI i), .int (nI (kA σ 25 i)), .int (iI (kI σ 41 i)), .ref (kA σ 22 i)]) := by rw [kmix_eq _ _ _ _ rfl]; simp only [kenc, if_pos h]
theorem kg_22 {σ : KS} {gF : xG} (i : Nat) (h : i < kA σ 62 0) : kmix σ gF (22, i) = some (kA σ 22 i, xAr (.object "KilnBench$Child") 6 (fun j => (kO σ 1 i j).map (kA σ 20))) := by rw [kmix_eq _ _ _ _ rfl]; simp only [kenc, if_pos h]
theorem kg_30 {σ : KS} {gF : xG} (i : Nat) (h : i < kA σ 65 0) : kmix σ gF (30, i) = some (kA σ 30 i, xO 20 [.int (iI (kI σ 21 i)), .int (iI (kI σ 22 i)), .ref (kA σ 31 i), .ref (kA σ 32 i), .ref (kA σ 0 0), .ref (kA σ 33 i), .ref (kA σ 0 0)]) := by rw [kmix_eq _ _ _ _ rfl]; simp only [kenc, if_pos h]
theorem kg_31 {σ : KS} {gF : xG} (i : Nat) (h : i < kA σ 65 0) : kmix σ gF (31, i) = some (kA σ 31 i, xAi .int 40 (fun j => iI (kV σ 5 i j))) := by rw [kmix_eq _ _ _ _ rfl]; simp only [kenc, if_pos h]
theorem kg_32 {σ : KS} {gF : xG} (i : Nat) (h : i < kA σ 65 0) : kmix σ gF (32, i) = some (kA σ 32 i, xAi .int 3 (fun j => iI (kV σ 6 i j))) := by rw [kmix_eq _ _ _ _ rfl]; simp only [kenc, if_pos h]
theorem kg_33 {σ : KS} {gF : xG} (i : Nat) (h : i < kA σ 65 0) : kmix σ gF (33, i) = some (kA σ 33 i, xO 21 [.int (iI (kI σ 23 i)), .ref (kA σ 34 i), .int (nI (kA σ 66 i))]) := by rw [kmix_eq _ _ _ _ rfl]; simp only [kenc, if_pos h]
theorem kg_34 {σ : KS} {gF : xG} (i : Nat) (h : i < kA σ 65 0 ∧ 0 < kA σ 76 i) : kmix σ gF (34, i) = some (kA σ 34 i, xAr (.object "java/lang/Object") (kA σ 76 i) (fun j => if j < kA σ 66 i then some (kA σ 12 j) else none)) := by rw [kmix_eq _ _ _ _ rfl]; simp only [kenc, if_pos h]
theorem kf_taped {σ : KS} {gF : xG} {x : Int32} {z : Int} (hx : x = iI z) : xu (kmix σ gF) (0, 0) (some (kA σ 0 0, .inr (1, ([.ref (kA σ 1 0), .int (iI (kI σ 0 0)), .ref (kA σ 2 0), .ref (kA σ 3 0), .int (iI (kI σ 1 0)), .int (iI (kI σ 2 0)), .int (iI (kI σ 3 0)), .ref (kA σ 10 0), .ref (kA σ 13 0), .ref (kA σ 8 0), .int (iI (kI σ 4 0)), .int (iI (kI σ 5 0)), .ref (kA σ 16 0), .long (kL σ 1 0), .ref (kA σ 18 0), .int (iI (kI σ 6 0))] : List Value).set 1 (.int x)))) = kmix (kIs σ 0 0 z) gF := by
  subst hx
  refine kfold rfl ?_ ?_
  · simp [kenc, kI_kIs, kA_kIs, kO_kIs, kV_kIs, kL_kIs, kI_kLs, kA_kLs, kO_kLs, kV_kLs, kL_kLs, kI_kOs, kA_kOs, kO_kOs, kV_kOs, kL_kOs]
  · intro k' i' h
    unfold kenc
    split <;> simp [kI_kIs, kA_kIs, kO_kIs, kV_kIs, kL_kIs, kI_kLs, kA_kLs, kO_kLs, kV_kLs, kL_kLs, kI_kVs, kA_kVs, kO_kVs, kV_kVs, kL_kVs, kI_kOs, kA_kOs, kO_kOs, kV_kOs, kL_kOs, kI_kAs, kA_kAs, kO_kAs, kV_kAs, kL_kAs]
    all_goals (try (split <;> first | exact absurd rfl h | rfl))
    all_goals (try rfl)
    all_goals (try (intro h1; simp_all))
    all_goals (try (split <;> first | rfl | simp_all))
theorem kf_fault {σ : KS} {gF : xG} {x : Int32} {z : Int} (hx : x = iI z) : xu (kmix σ gF) (0, 0) (some (kA σ 0 0, .inr (1, ([.ref (kA σ 1 0), .int (iI (kI σ 0 0)), .ref (kA σ 2 0), .ref (kA σ 3 0), .int (iI (kI σ 1 0)), .int (iI (kI σ 2 0)), .int (iI (kI σ 3 0)), .ref (kA σ 10 0), .ref (kA σ 13 0), .ref (kA σ 8 0), .int (iI (kI σ 4 0)), .int (iI (kI σ 5 0)), .ref (kA σ 16 0), .long (kL σ 1 0), .ref (kA σ 18 0), .int (iI (kI σ 6 0))] : List Value).set 4 (.int x)))) = kmix (kIs σ 1 0 z) gF := by
  subst hx
  refine kfold rfl ?_ ?_
  · simp [kenc, kI_kIs, kA_kIs, kO_kIs, kV_kIs, kL_kIs, kI_kLs, kA_kLs, kO_kLs, kV_kLs, kL_kLs, kI_kOs, kA_kOs, kO_kOs, kV_kOs, kL_kOs]
  · intro k' i' h
    unfold kenc
    split <;> simp [kI_kIs, kA_kIs, kO_kIs, kV_kIs, kL_kIs, kI_kLs, kA_kLs, kO_kLs, kV_kLs, kL_kLs, kI_kVs, kA_kVs, kO_kVs, kV_kVs, kL_kVs, kI_kOs, kA_kOs, kO_kOs, kV_kOs, kL_kOs, kI_kAs, kA_kAs, kO_kAs, kV_kAs, kL_kAs]
    all_goals (try (split <;> first | exact absurd rfl h | rfl))
    all_goals (try rfl)
    all_goals (try (intro h1; simp_all))
    all_goals (try (split <;> first | rfl | simp_all))
theorem kf_faultPlace {σ : KS} {gF : xG} {x : Int32} {z : Int} (hx : x = iI z) : xu (kmix σ gF) (0, 0) (some (kA σ 0 0, .inr (1, ([.ref (kA σ 1 0), .int (iI (kI σ 0 0)), .ref (kA σ 2 0), .ref (kA σ 3 0), .int (iI (kI σ 1 0)), .int (iI (kI σ 2 0)), .int (iI (kI σ 3 0)), .ref (kA σ 10 0), .ref (kA σ 13 0), .ref (kA σ 8 0), .int (iI (kI σ 4 0)), .int (iI (kI σ 5 0)), .ref (kA σ 16 0), .long (kL σ 1 0), .ref (kA σ 18 0), .int (iI (kI σ 6 0))] : List Value).set 5 (.int x)))) = kmix (kIs σ 2 0 z) gF := by
  subst hx
  refine kfold rfl ?_ ?_
  · simp [kenc, kI_kIs, kA_kIs, kO_kIs, kV_kIs, kL_kIs, kI_kLs, kA_kLs, kO_kLs, kV_kLs, kL_kLs, kI_kOs, kA_kOs, kO_kOs, kV_kOs, kL_kOs]
  · intro k' i' h
    unfold kenc
    split <;> simp [kI_kIs, kA_kIs, kO_kIs, kV_kIs, kL_kIs, kI_kLs, kA_kLs, kO_kLs, kV_kLs, kL_kLs, kI_kVs, kA_kVs, kO_kVs, kV_kVs, kL_kVs, kI_kOs, kA_kOs, kO_kOs, kV_kOs, kL_kOs, kI_kAs, kA_kAs, kO_kAs, kV_kAs, kL_kAs]
    all_goals (try (split <;> first | exact absurd rfl h | rfl))
    all_goals (try rfl)
    all_goals (try (intro h1; simp_all))
    all_goals (try (split <;> first | rfl | simp_all))
theorem kf_week {σ : KS} {gF : xG} {x : Int32} {z : Int} (hx : x = iI z) : xu (kmix σ gF) (0, 0) (some (kA σ 0 0, .inr (1, ([.ref (kA σ 1 0), .int (iI (kI σ 0 0)), .ref (kA σ 2 0), .ref (kA σ 3 0), .int (iI (kI σ 1 0)), .int (iI (kI σ 2 0)), .int (iI (kI σ 3 0)), .ref (kA σ 10 0), .ref (kA σ 13 0), .ref (kA σ 8 0), .int (iI (kI σ 4 0)), .int (iI (kI σ 5 0)), .ref (kA σ 16 0), .long (kL σ 1 0), .ref (kA σ 18 0), .int (iI (kI σ 6 0))] : List Value).set 6 (.int x)))) = kmix (kIs σ 3 0 z) gF := by
  subst hx
  refine kfold rfl ?_ ?_
  · simp [kenc, kI_kIs, kA_kIs, kO_kIs, kV_kIs, kL_kIs, kI_kLs, kA_kLs, kO_kLs, kV_kLs, kL_kLs, kI_kOs, kA_kOs, kO_kOs, kV_kOs, kL_kOs]
  · intro k' i' h
    unfold kenc
    split <;> simp [kI_kIs, kA_kIs, kO_kIs, kV_kIs, kL_kIs, kI_kLs, kA_kLs, kO_kLs, kV_kLs, kL_kLs, kI_kVs, kA_kVs, kO_kVs, kV_kVs, kL_kVs, kI_kOs, kA_kOs, kO_kOs, kV_kOs, kL_kOs, kI_kAs, kA_kAs, kO_kAs, kV_kAs, kL_kAs]
    all_goals (try (split <;> first | exact absurd rfl h | rfl))
    all_goals (try rfl)
    all_goals (try (intro h1; simp_all))
    all_goals (try (split <;> first | rfl | simp_all))
theorem kf_thought {σ : KS} {gF : xG} {x : Int32} {z : Int} (hx : x = iI z) : xu (kmix σ gF) (0, 0) (some (kA σ 0 0, .inr (1, ([.ref (kA σ 1 0), .int (iI (kI σ 0 0)), .ref (kA σ 2 0), .ref (kA σ 3 0), .int (iI (kI σ 1 0)), .int (iI (kI σ 2 0)), .int (iI (kI σ 3 0)), .ref (kA σ 10 0), .ref (kA σ 13 0), .ref (kA σ 8 0), .int (iI (kI σ 4 0)), .int (iI (kI σ 5 0)), .ref (kA σ 16 0), .long (kL σ 1 0), .ref (kA σ 18 0), .int (iI (kI σ 6 0))] : List Value).set 10 (.int x)))) = kmix (kIs σ 4 0 z) gF := by
  subst hx
  refine kfold rfl ?_ ?_
  · simp [kenc, kI_kIs, kA_kIs, kO_kIs, kV_kIs, kL_kIs, kI_kLs, kA_kLs, kO_kLs, kV_kLs, kL_kLs, kI_kOs, kA_kOs, kO_kOs, kV_kOs, kL_kOs]
  · intro k' i' h
    unfold kenc
    split <;> simp [kI_kIs, kA_kIs, kO_kIs, kV_kIs, kL_kIs, kI_kLs, kA_kLs, kO_kLs, kV_kLs, kL_kLs, kI_kVs, kA_kVs, kO_kVs, kV_kVs, kL_kVs, kI_kOs, kA_kOs, kO_kOs, kV_kOs, kL_kOs, kI_kAs, kA_kAs, kO_kAs, kV_kAs, kL_kAs]
    all_goals (try (split <;> first | exact absurd rfl h | rfl))
    all_goals (try rfl)
    all_goals (try (intro h1; simp_all))
    all_goals (try (split <;> first | rfl | simp_all))
theorem kf_fired {σ : KS} {gF : xG} {x : Int32} {z : Int} (hx : x = iI z) : xu (kmix σ gF) (0, 0) (some (kA σ 0 0, .inr (1, ([.ref (kA σ 1 0), .int (iI (kI σ 0 0)), .ref (kA σ 2 0), .ref (kA σ 3 0), .int (iI (kI σ 1 0)), .int (iI (kI σ 2 0)), .int (iI (kI σ 3 0)), .ref (kA σ 10 0), .ref (kA σ 13 0), .ref (kA σ 8 0), .int (iI (kI σ 4 0)), .int (iI (kI σ 5 0)), .ref (kA σ 16 0), .long (kL σ 1 0), .ref (kA σ 18 0), .int (iI (kI σ 6 0))] : List Value).set 11 (.int x)))) = kmix (kIs σ 5 0 z) gF := by
  subst hx
  refine kfold rfl ?_ ?_
  · simp [kenc, kI_kIs, kA_kIs, kO_kIs, kV_kIs, kL_kIs, kI_kLs, kA_kLs, kO_kLs, kV_kLs, kL_kLs, kI_kOs, kA_kOs, kO_kOs, kV_kOs, kL_kOs]
  · intro k' i' h
    unfold kenc
    split <;> simp [kI_kIs, kA_kIs, kO_kIs, kV_kIs, kL_kIs, kI_kLs, kA_kLs, kO_kLs, kV_kLs, kL_kLs, kI_kVs, kA_kVs, kO_kVs, kV_kVs, kL_kVs, kI_kOs, kA_kOs, kO_kOs, kV_kOs, kL_kOs, kI_kAs, kA_kAs, kO_kAs, kV_kAs, kL_kAs]
    all_goals (try (split <;> first | exact absurd rfl h | rfl))
    all_goals (try rfl)
    all_goals (try (intro h1; simp_all))
    all_goals (try (split <;> first | rfl | simp_all))
theorem kf_imaged {σ : KS} {gF : xG} {x : Int32} {z : Int} (hx : x = iI z) : xu (kmix σ gF) (0, 0) (some (kA σ 0 0, .inr (1, ([.ref (kA σ 1 0), .int (iI (kI σ 0 0)), .ref (kA σ 2 0), .ref (kA σ 3 0), .int (iI (kI σ 1 0)), .int (iI (kI σ 2 0)), .int (iI (kI σ 3 0)), .ref (kA σ 10 0), .ref (kA σ 13 0), .ref (kA σ 8 0), .int (iI (kI σ 4 0)), .int (iI (kI σ 5 0)), .ref (kA σ 16 0), .long (kL σ 1 0), .ref (kA σ 18 0), .int (iI (kI σ 6 0))] : List Value).set 15 (.int x)))) = kmix (kIs σ 6 0 z) gF := by
  subst hx
  refine kfold rfl ?_ ?_
  · simp [kenc, kI_kIs, kA_kIs, kO_kIs, kV_kIs, kL_kIs, kI_kLs, kA_kLs, kO_kLs, kV_kLs, kL_kLs, kI_kOs, kA_kOs, kO_kOs, kV_kOs, kL_kOs]
  · intro k' i' h
    unfold kenc
    split <;> simp [kI_kIs, kA_kIs, kO_kIs, kV_kIs, kL_kIs, kI_kLs, kA_kLs, kO_kLs, kV_kLs, kL_kLs, kI_kVs, kA_kVs, kO_kVs, kV_kVs, kL_kVs, kI_kOs, kA_kOs, kO_kOs, kV_kOs, kL_kOs, kI_kAs, kA_kAs, kO_kAs, kV_kAs, kL_kAs]
    all_goals (try (split <;> first | exact absurd rfl h | rfl))
    all_goals (try rfl)
    all_goals (try (intro h1; simp_all))
    all_goals (try (split <;> first | rfl | simp_all))
theorem kf_seeded {σ : KS} {gF : xG} {x : Int64}  : xu (kmix σ gF) (0, 0) (some (kA σ 0 0, .inr (1, ([.ref (kA σ 1 0), .int (iI (kI σ 0 0)), .ref (kA σ 2 0), .ref (kA σ 3 0), .int (iI (kI σ 1 0)), .int (iI (kI σ 2 0)), .int (iI (kI σ 3 0)), .ref (kA σ 10 0), .ref (kA σ 13 0), .ref (kA σ 8 0), .int (iI (kI σ 4 0)), .int (iI (kI σ 5 0)), .ref (kA σ 16 0), .long (kL σ 1 0), .ref (kA σ 18 0), .int (iI (kI σ 6 0))] : List Value).set 13 (.long x)))) = kmix (kLs σ 1 0 x) gF := by
  
  refine kfold rfl ?_ ?_
  · simp [kenc, kI_kIs, kA_kIs, kO_kIs, kV_kIs, kL_kIs, kI_kLs, kA_kLs, kO_kLs, kV_kLs, kL_kLs, kI_kOs, kA_kOs, kO_kOs, kV_kOs, kL_kOs]
  · intro k' i' h
    unfold kenc
    split <;> simp [kI_kIs, kA_kIs, kO_kIs, kV_kIs, kL_kIs, kI_kLs, kA_kLs, kO_kLs, kV_kLs, kL_kLs, kI_kVs, kA_kVs, kO_kVs, kV_kVs, kL_kVs, kI_kOs, kA_kOs, kO_kOs, kV_kOs, kL_kOs, kI_kAs, kA_kAs, kO_kAs, kV_kAs, kL_kAs]
    all_goals (try (split <;> first | exact absurd rfl h | rfl))
    all_goals (try rfl)
    all_goals (try (intro h1; simp_all))
    all_goals (try (split <;> first | rfl | simp_all))
theorem kf_fuel {σ : KS} {gF : xG} {x : Int32} {z : Int} (hx : x = iI z) : xu (kmix σ gF) (3, 0) (some (kA σ 3 0, .inr (2, ([.int (iI (kI σ 7 0)), .int (iI (kI σ 8 0)), .int (iI (kI σ 9 0)), .int (iI (kI σ 10 0)), va_rf (kO σ 2 0 0), va_rf (kO σ 2 1 0), va_rf (kO σ 2 2 0), va_rf (kO σ 2 3 0), .ref (kA σ 4 0), .ref (kA σ 6 0)] : List Value).set 0 (.int x)))) = kmix (kIs σ 7 0 z) gF := by
  subst hx
  refine kfold rfl ?_ ?_
  · simp [kenc, kI_kIs, kA_kIs, kO_kIs, kV_kIs, kL_kIs, kI_kLs, kA_kLs, kO_kLs, kV_kLs, kL_kLs, kI_kOs, kA_kOs, kO_kOs, kV_kOs, kL_kOs]
  · intro k' i' h
    unfold kenc
    split <;> simp [kI_kIs, kA_kIs, kO_kIs, kV_kIs, kL_kIs, kI_kLs, kA_kLs, kO_kLs, kV_kLs, kL_kLs, kI_kVs, kA_kVs, kO_kVs, kV_kVs, kL_kVs, kI_kOs, kA_kOs, kO_kOs, kV_kOs, kL_kOs, kI_kAs, kA_kAs, kO_kAs, kV_kAs, kL_kAs]
    all_goals (try (split <;> first | exact absurd rfl h | rfl))
    all_goals (try rfl)
    all_goals (try (intro h1; simp_all))
    all_goals (try (split <;> first | rfl | simp_all))
theorem kf_place {σ : KS} {gF : xG} {i : Nat} {x : Int32} {z : Int} (hx : x = iI z) (hc : i < kA σ 61 0) : xu (kmix σ gF) (20, i) (some (kA σ 20 i, .inr (5, ([.ref (kA σ 23 i), .int (nI i), .int (iI (kI σ 31 i)), .int (iI (kI σ 32 i)), .int (iI (kI σ 33 i)), .int (iI (kI σ 34 i)), .int (iI (kI σ 35 i)), va_rf ((kO σ 0 i 0).map (kA σ 21)), .int (iI (kI σ 36 i))] : List Value).set 4 (.int x)))) = kmix (kIs σ 33 i z) gF := by
  subst hx
  refine kfold rfl ?_ ?_
  · simp [kenc, hc, kI_kIs, kA_kIs, kO_kIs, kV_kIs, kL_kIs, kI_kLs, kA_kLs, kO_kLs, kV_kLs, kL_kLs, kI_kOs, kA_kOs, kO_kOs, kV_kOs, kL_kOs]
  · intro k' i' h
    unfold kenc
    split <;> simp [kI_kIs, kA_kIs, kO_kIs, kV_kIs, kL_kIs, kI_kLs, kA_kLs, kO_kLs, kV_kLs, kL_kLs, kI_kVs, kA_kVs, kO_kVs, kV_kVs, kL_kVs, kI_kOs, kA_kOs, kO_kOs, kV_kOs, kL_kOs, kI_kAs, kA_kAs, kO_kAs, kV_kAs, kL_kAs]
    all_goals (try (split <;> first | exact absurd rfl h | rfl))
    all_goals (try rfl)
    all_goals (try (intro h1; simp_all))
    all_goals (try (split <;> first | rfl | simp_all))
theorem kf_temper {σ : KS} {gF : xG} {i : Nat} {x : Int32} {z : Int} (hx : x = iI z) (hc : i < kA σ 61 0) : xu (kmix σ gF) (20, i) (some (kA σ 20 i, .inr (5, ([.ref (kA σ 23 i), .int (nI i), .int (iI (kI σ 31 i)), .int (iI (kI σ 32 i)), .int (iI (kI σ 33 i)), .int (iI (kI σ 34 i)), .int (iI (kI σ 35 i)), va_rf ((kO σ 0 i 0).map (kA σ 21)), .int (iI (kI σ 36 i))] : List Value).set 5 (.int x)))) = kmix (kIs σ 34 i z) gF := by
  subst hx
  refine kfold rfl ?_ ?_
  · simp [kenc, hc, kI_kIs, kA_kIs, kO_kIs, kV_kIs, kL_kIs, kI_kLs, kA_kLs, kO_kLs, kV_kLs, kL_kLs, kI_kOs, kA_kOs, kO_kOs, kV_kOs, kL_kOs]
  · intro k' i' h
    unfold kenc
    split <;> simp [kI_kIs, kA_kIs, kO_kIs, kV_kIs, kL_kIs, kI_kLs, kA_kLs, kO_kLs, kV_kLs, kL_kLs, kI_kVs, kA_kVs, kO_kVs, kV_kVs, kL_kVs, kI_kOs, kA_kOs, kO_kOs, kV_kOs, kL_kOs, kI_kAs, kA_kAs, kO_kAs, kV_kAs, kL_kAs]
    all_goals (try (split <;> first | exact absurd rfl h | rfl))
    all_goals (try rfl)
    all_goals (try (intro h1; simp_all))
    all_goals (try (split <;> first | rfl | simp_all))
theorem kf_stuck {σ : KS} {gF : xG} {i : Nat} {x : Int32} {z : Int} (hx : x = iI z) (hc : i < kA σ 61 0) : xu (kmix σ gF) (20, i) (some (kA σ 20 i, .inr (5, ([.ref (kA σ 23 i), .int (nI i), .int (iI (kI σ 31 i)), .int (iI (kI σ 32 i)), .int (iI (kI σ 33 i)), .int (iI (kI σ 34 i)), .int (iI (kI σ 35 i)), va_rf ((kO σ 0 i 0).map (kA σ 21)), .int (iI (kI σ 36 i))] : List Value).set 6 (.int x)))) = kmix (kIs σ 35 i z) gF := by
  subst hx
  refine kfold rfl ?_ ?_
  · simp [kenc, hc, kI_kIs, kA_kIs, kO_kIs, kV_kIs, kL_kIs, kI_kLs, kA_kLs, kO_kLs, kV_kLs, kL_kLs, kI_kOs, kA_kOs, kO_kOs, kV_kOs, kL_kOs]
  · intro k' i' h
    unfold kenc
    split <;> simp [kI_kIs, kA_kIs, kO_kIs, kV_kIs, kL_kIs, kI_kLs, kA_kLs, kO_kLs, kV_kLs, kL_kLs, kI_kVs, kA_kVs, kO_kVs, kV_kVs, kL_kVs, kI_kOs, kA_kOs, kO_kOs, kV_kOs, kL_kOs, kI_kAs, kA_kAs, kO_kAs, kV_kAs, kL_kAs]
    all_goals (try (split <;> first | exact absurd rfl h | rfl))
    all_goals (try rfl)
    all_goals (try (intro h1; simp_all))
    all_goals (try (split <;> first | rfl | simp_all))
theorem kf_cracked {σ : KS} {gF : xG} {i : Nat} {x : Int32} {z : Int} (hx : x = iI z) (hc : i < kA σ 61 0) : xu (kmix σ gF) (20, i) (some (kA σ 20 i, .inr (5, ([.ref (kA σ 23 i), .int (nI i), .int (iI (kI σ 31 i)), .int (iI (kI σ 32 i)), .int (iI (kI σ 33 i)), .int (iI (kI σ 34 i)), .int (iI (kI σ 35 i)), va_rf ((kO σ 0 i 0).map (kA σ 21)), .int (iI (kI σ 36 i))] : List Value).set 8 (.int x)))) = kmix (kIs σ 36 i z) gF := by
  subst hx
  refine kfold rfl ?_ ?_
  · simp [kenc, hc, kI_kIs, kA_kIs, kO_kIs, kV_kIs, kL_kIs, kI_kLs, kA_kLs, kO_kLs, kV_kLs, kL_kLs, kI_kOs, kA_kOs, kO_kOs, kV_kOs, kL_kOs]
  · intro k' i' h
    unfold kenc
    split <;> simp [kI_kIs, kA_kIs, kO_kIs, kV_kIs, kL_kIs, kI_kLs, kA_kLs, kO_kLs, kV_kLs, kL_kLs, kI_kVs, kA_kVs, kO_kVs, kV_kVs, kL_kVs, kI_kOs, kA_kOs, kO_kOs, kV_kOs, kL_kOs, kI_kAs, kA_kAs, kO_kAs, kV_kAs, kL_kAs]
    all_goals (try (split <;> first | exact absurd rfl h | rfl))
    all_goals (try rfl)
    all_goals (try (intro h1; simp_all))
    all_goals (try (split <;> first | rfl | simp_all))
theorem kf_heat {σ : KS} {gF : xG} {i : Nat} {x : Int32} {z : Int} (hx : x = iI z) (hc : i < kA σ 62 0) : xu (kmix σ gF) (21, i) (some (kA σ 21 i, .inr (6, ([.ref (kA σ 24 i), .int (nI i), .int (nI (kA σ 25 i)), .int (iI (kI σ 41 i)), .ref (kA σ 22 i)] : List Value).set 3 (.int x)))) = kmix (kIs σ 41 i z) gF := by
  subst hx
  refine kfold rfl ?_ ?_
  · simp [kenc, hc, kI_kIs, kA_kIs, kO_kIs, kV_kIs, kL_kIs, kI_kLs, kA_kLs, kO_kLs, kV_kLs, kL_kLs, kI_kOs, kA_kOs, kO_kOs, kV_kOs, kL_kOs]
  · intro k' i' h
    unfold kenc
    split <;> simp [kI_kIs, kA_kIs, kO_kIs, kV_kIs, kL_kIs, kI_kLs, kA_kLs, kO_kLs, kV_kLs, kL_kLs, kI_kVs, kA_kVs, kO_kVs, kV_kVs, kL_kVs, kI_kOs, kA_kOs, kO_kOs, kV_kOs, kL_kOs, kI_kAs, kA_kAs, kO_kAs, kV_kAs, kL_kAs]
    all_goals (try (split <;> first | exact absurd rfl h | rfl))
    all_goals (try rfl)
    all_goals (try (intro h1; simp_all))
    all_goals (try (split <;> first | rfl | simp_all))
theorem kf_ckiln {σ : KS} {gF : xG} {i : Nat} {r z : Option Nat} (hx : r = z.map (kA σ 21)) (hc : i < kA σ 61 0) : xu (kmix σ gF) (20, i) (some (kA σ 20 i, .inr (5, ([.ref (kA σ 23 i), .int (nI i), .int (iI (kI σ 31 i)), .int (iI (kI σ 32 i)), .int (iI (kI σ 33 i)), .int (iI (kI σ 34 i)), .int (iI (kI σ 35 i)), va_rf ((kO σ 0 i 0).map (kA σ 21)), .int (iI (kI σ 36 i))] : List Value).set 7 (va_rf r)))) = kmix (kOs σ 0 i 0 z) gF := by
  subst hx
  refine kfold rfl ?_ ?_
  · simp [kenc, hc, kI_kIs, kA_kIs, kO_kIs, kV_kIs, kL_kIs, kI_kLs, kA_kLs, kO_kLs, kV_kLs, kL_kLs, kI_kOs, kA_kOs, kO_kOs, kV_kOs, kL_kOs]
  · intro k' i' h
    unfold kenc
    split <;> simp [kI_kIs, kA_kIs, kO_kIs, kV_kIs, kL_kIs, kI_kLs, kA_kLs, kO_kLs, kV_kLs, kL_kLs, kI_kVs, kA_kVs, kO_kVs, kV_kVs, kL_kVs, kI_kOs, kA_kOs, kO_kOs, kV_kOs, kL_kOs, kI_kAs, kA_kAs, kO_kAs, kV_kAs, kL_kAs]
    all_goals (try (split <;> first | exact absurd rfl h | rfl))
    all_goals (try rfl)
    all_goals (try (intro h1; simp_all))
    all_goals (try (split <;> first | rfl | simp_all))
theorem kf_refusal {σ : KS} {gF : xG} {j : Nat} {x : Int32} {z : Int} (hx : x = iI z) : xu (kmix σ gF) (2, 0) (some (kA σ 2 0, xAi .int 6 (upd (fun j => iI (kV σ 1 0 j)) j x))) = kmix (kVs σ 1 0 j z) gF := by
  subst hx
  refine kfold rfl ?_ ?_
  · have e : (fun k => iI (kV (kVs σ 1 0 j z) 1 0 k)) = (upd (fun j => iI (kV σ 1 0 j)) j (iI z)) := by
      funext k
      by_cases e : k = j <;> simp [e, upd, va_up, kV_kVs, kO_kOs]
    show some (kA σ 2 0, xAi .int 6 (fun k => iI (kV (kVs σ 1 0 j z) 1 0 k))) = _
    rw [e]
  · intro k' i' h
    unfold kenc
    split <;> simp [kI_kIs, kA_kIs, kO_kIs, kV_kIs, kL_kIs, kI_kLs, kA_kLs, kO_kLs, kV_kLs, kL_kLs, kI_kVs, kA_kVs, kO_kVs, kV_kVs, kL_kVs, kI_kOs, kA_kOs, kO_kOs, kV_kOs, kL_kOs, kI_kAs, kA_kAs, kO_kAs, kV_kAs, kL_kAs]
    all_goals (try (split <;> first | exact absurd rfl h | rfl))
    all_goals (try rfl)
    all_goals (try (intro h1; simp_all))
    all_goals (try (split <;> first | rfl | simp_all))
    all_goals (try (have : i' ≠ i := fun q => h (by rw [q]); simp [this]))
theorem kf_tape {σ : KS} {gF : xG} {j : Nat} {x : Int32} {z : Int} (hx : x = iI z) : xu (kmix σ gF) (1, 0) (some (kA σ 1 0, xAi .char 1600 (upd (fun j => iI (kV σ 0 0 j)) j x))) = kmix (kVs σ 0 0 j z) gF := by
  subst hx
  refine kfold rfl ?_ ?_
  · have e : (fun k => iI (kV (kVs σ 0 0 j z) 0 0 k)) = (upd (fun j => iI (kV σ 0 0 j)) j (iI z)) := by
      funext k
      by_cases e : k = j <;> simp [e, upd, va_up, kV_kVs, kO_kOs]
    show some (kA σ 1 0, xAi .char 1600 (fun k => iI (kV (kVs σ 0 0 j z) 0 0 k))) = _
    rw [e]
  · intro k' i' h
    unfold kenc
    split <;> simp [kI_kIs, kA_kIs, kO_kIs, kV_kIs, kL_kIs, kI_kLs, kA_kLs, kO_kLs, kV_kLs, kL_kLs, kI_kVs, kA_kVs, kO_kVs, kV_kVs, kL_kVs, kI_kOs, kA_kOs, kO_kOs, kV_kOs, kL_kOs, kI_kAs, kA_kAs, kO_kAs, kV_kAs, kL_kAs]
    all_goals (try (split <;> first | exact absurd rfl h | rfl))
    all_goals (try rfl)
    all_goals (try (intro h1; simp_all))
    all_goals (try (split <;> first | rfl | simp_all))
    all_goals (try (have : i' ≠ i := fun q => h (by rw [q]); simp [this]))
theorem kf_image {σ : KS} {gF : xG} {j : Nat} {x : Int32} {z : Int} (hx : x = iI z) : xu (kmix σ gF) (18, 0) (some (kA σ 18 0, xAi .char 56 (upd (fun j => iI (kV σ 4 0 j)) j x))) = kmix (kVs σ 4 0 j z) gF := by
  subst hx
  refine kfold rfl ?_ ?_
  · have e : (fun k => iI (kV (kVs σ 4 0 j z) 4 0 k)) = (upd (fun j => iI (kV σ 4 0 j)) j (iI z)) := by
      funext k
      by_cases e : k = j <;> simp [e, upd, va_up, kV_kVs, kO_kOs]
    show some (kA σ 18 0, xAi .char 56 (fun k => iI (kV (kVs σ 4 0 j z) 4 0 k))) = _
    rw [e]
  · intro k' i' h
    unfold kenc
    split <;> simp [kI_kIs, kA_kIs, kO_kIs, kV_kIs, kL_kIs, kI_kLs, kA_kLs, kO_kLs, kV_kLs, kL_kLs, kI_kVs, kA_kVs, kO_kVs, kV_kVs, kL_kVs, kI_kOs, kA_kOs, kO_kOs, kV_kOs, kL_kOs, kI_kAs, kA_kAs, kO_kAs, kV_kAs, kL_kAs]
    all_goals (try (split <;> first | exact absurd rfl h | rfl))
    all_goals (try rfl)
    all_goals (try (intro h1; simp_all))
    all_goals (try (split <;> first | rfl | simp_all))
    all_goals (try (have : i' ≠ i := fun q => h (by rw [q]); simp [this]))
theorem kf_places {σ : KS} {gF : xG} {i j : Nat} {r z : Option Nat} (hx : r = z.map (kA σ 20)) (hc : i < kA σ 62 0) : xu (kmix σ gF) (22, i) (some (kA σ 22 i, xAr (.object "KilnBench$Child") 6 (va_up (fun j => (kO σ 1 i j).map (kA σ 20)) j r))) = kmix (kOs σ 1 i j z) gF := by
  subst hx
  refine kfold rfl ?_ ?_
  · have e : (fun k => (kO (kOs σ 1 i j z) 1 i k).map (kA σ 20)) = (va_up (fun j => (kO σ 1 i j).map (kA σ 20)) j (z.map (kA σ 20))) := by
      funext k
      by_cases e : k = j <;> simp [e, upd, va_up, kV_kVs, kO_kOs]
    show (if i < kA σ 62 0 then some (kA σ 22 i, xAr (.object "KilnBench$Child") 6 (fun k => (kO (kOs σ 1 i j z) 1 i k).map (kA σ 20))) else none) = _
    rw [if_pos hc, e]
  · intro k' i' h
    unfold kenc
    split <;> simp [kI_kIs, kA_kIs, kO_kIs, kV_kIs, kL_kIs, kI_kLs, kA_kLs, kO_kLs, kV_kLs, kL_kLs, kI_kVs, kA_kVs, kO_kVs, kV_kVs, kL_kVs, kI_kOs, kA_kOs, kO_kOs, kV_kOs, kL_kOs, kI_kAs, kA_kAs, kO_kAs, kV_kAs, kL_kAs]
    all_goals (try (split <;> first | exact absurd rfl h | rfl))
    all_goals (try rfl)
    all_goals (try (intro h1; simp_all))
    all_goals (try (split <;> first | rfl | simp_all))
    all_goals (try (have : i' ≠ i := fun q => h (by rw [q]); simp [this]))
/-- the shape of the state is in order -/
def KW (σ : KS) : Prop := kA σ 61 0 ≤ 8 ∧ kA σ 62 0 ≤ 3 ∧ (∀ s, 61 ≤ s → s ≤ 65 → kA σ s 0 ≤ kA σ (s + 10) 0 ∧ kA σ (s + 10) 0 < 1048576) ∧ (∀ q, q < kA σ 62 0 → kA σ 25 q ≤ 6) ∧ (∀ c q, c < kA σ 61 0 → kO σ 0 c 0 = some q → q < kA σ 62 0) ∧ (∀ q p c, q < kA σ 62 0 → kO σ 1 q p = some c → c < kA σ 61 0)
