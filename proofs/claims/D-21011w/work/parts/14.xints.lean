/-! ints as mathematical Ints -/
abbrev iI (z : Int) : Int32 := Int32.ofInt z
abbrev lI (z : Int) : Int64 := Int64.ofInt z
def iB (z : Int) : Prop := -2147483648 ≤ z ∧ z < 2147483648
theorem iI_add (a b : Int) : iI a + iI b = iI (a + b) := (Int32.ofInt_add a b).symm
theorem iI_sub (a b : Int) : iI a - iI b = iI (a - b) := (Int32.ofInt_sub a b).symm
theorem iI_mul (a b : Int) : iI a * iI b = iI (a * b) := (Int32.ofInt_mul a b).symm
theorem iI_neg (a : Int) : - iI a = iI (-a) := (Int32.ofInt_neg a).symm
theorem iI_self (x : Int32) : iI x.toInt = x := Int32.ofInt_toInt x
theorem iI_toInt {z : Int} (h : iB z) : (iI z).toInt = z := Int32.toInt_ofInt_of_le (by have := h.1; simpa using this) (by have := h.2; simpa using this)
theorem iI_lt {a b : Int} (ha : iB a) (hb : iB b) : iI a < iI b ↔ a < b := by rw [Int32.lt_iff_toInt_lt, iI_toInt ha, iI_toInt hb]
theorem iI_le {a b : Int} (ha : iB a) (hb : iB b) : iI a ≤ iI b ↔ a ≤ b := by rw [Int32.le_iff_toInt_le, iI_toInt ha, iI_toInt hb]
theorem iI_eq {a b : Int} (ha : iB a) (hb : iB b) : iI a = iI b ↔ a = b := by rw [← Int32.toInt_inj, iI_toInt ha, iI_toInt hb]
theorem iI_nat (n : Nat) : iI (n : Int) = nI n := by
  unfold iI nI
  rfl
theorem iI_lit (n : Nat) : (OfNat.ofNat n : Int32) = iI (OfNat.ofNat n) := rfl
theorem iI_m1 : (-1 : Int32) = iI (-1) := by decide
theorem iB_nat {n : Nat} (h : n < 2147483648) : iB (n : Int) := ⟨by omega, by omega⟩
theorem lI_of {z : Int} (h : iB z) : (iI z).toInt64 = lI z := by
  rw [← Int64.toInt_inj, Int32.toInt_toInt64, iI_toInt h]
  exact (Int64.toInt_ofInt_of_le (by have := h.1; omega) (by have := h.2; omega)).symm
theorem i64_le (a b : Int32) : a.toInt64 ≤ b.toInt64 ↔ a ≤ b := by rw [Int64.le_iff_toInt_le, Int32.toInt_toInt64, Int32.toInt_toInt64, Int32.le_iff_toInt_le]
theorem i64_0 : (0 : Int64) = (0 : Int32).toInt64 := by decide
