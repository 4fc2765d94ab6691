/-! longs that are numbers -/
def nL (k : Nat) : Int64 := Int64.ofNat k
theorem nL_int {k : Nat} (h : k < 2 ^ 63) : (nL k).toInt = k := Int64.toInt_ofNat_of_lt h
theorem nL_add (a b : Nat) : nL a + nL b = nL (a + b) := (Int64.ofNat_add a b).symm
theorem nL_mul (a b : Nat) : nL a * nL b = nL (a * b) := (Int64.ofNat_mul a b).symm
theorem nL_lt {a b : Nat} (ha : a < 2 ^ 63) (hb : b < 2 ^ 63) : (nL a < nL b) ↔ a < b := by
  rw [Int64.lt_iff_toInt_lt, nL_int ha, nL_int hb]
  omega
theorem nL_eq {a b : Nat} (ha : a < 2 ^ 63) (hb : b < 2 ^ 63) : (nL a = nL b) ↔ a = b := by
  constructor
  · intro h
    have := congrArg Int64.toInt h
    rw [nL_int ha, nL_int hb] at this
    omega
  · intro h
    rw [h]
theorem nL_i2l {k : Nat} (h : k < 2 ^ 31) : (nI k).toInt64 = nL k := by
  apply Int64.toInt_inj.mp
  rw [Int32.toInt_toInt64, nL_int (by omega)]
  exact Int32.toInt_ofNat_of_lt h
theorem nL_l2i (k : Nat) : (nL k).toInt32 = nI k := Int64.toInt32_ofNat
def FARc : Nat := 1125899906842624
theorem FARc_l : nL FARc = 1125899906842624 := rfl
