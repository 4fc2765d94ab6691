/-! bits -/
theorem nI_bv (a : Nat) : (nI a).toBitVec = BitVec.ofNat 32 a := rfl
theorem nI_or (a b : Nat) : nI a ||| nI b = nI (a ||| b) := by
  apply Int32.toBitVec_inj.mp
  rw [Int32.toBitVec_or, nI_bv, nI_bv, nI_bv]
  apply BitVec.eq_of_getLsbD_eq
  intro i hi
  rw [BitVec.getLsbD_or, BitVec.getLsbD_ofNat, BitVec.getLsbD_ofNat, BitVec.getLsbD_ofNat, Nat.testBit_or]
  simp [hi]
theorem nI_and (a b : Nat) : nI a &&& nI b = nI (a &&& b) := by
  apply Int32.toBitVec_inj.mp
  rw [Int32.toBitVec_and, nI_bv, nI_bv, nI_bv]
  apply BitVec.eq_of_getLsbD_eq
  intro i hi
  rw [BitVec.getLsbD_and, BitVec.getLsbD_ofNat, BitVec.getLsbD_ofNat, BitVec.getLsbD_ofNat, Nat.testBit_and]
  simp [hi]
theorem nI_xor (a b : Nat) : nI a ^^^ nI b = nI (a ^^^ b) := by
  apply Int32.toBitVec_inj.mp
  rw [Int32.toBitVec_xor, nI_bv, nI_bv, nI_bv]
  apply BitVec.eq_of_getLsbD_eq
  intro i hi
  rw [BitVec.getLsbD_xor, BitVec.getLsbD_ofNat, BitVec.getLsbD_ofNat, BitVec.getLsbD_ofNat, Nat.testBit_xor]
  simp [hi]
/-- a without q -/
def nd (a q : Nat) : Nat := a ^^^ (a &&& q)
theorem nd_bit (a q i : Nat) : (nd a q).testBit i = (a.testBit i && !q.testBit i) := by
  unfold nd
  rw [Nat.testBit_xor, Nat.testBit_and]
  cases a.testBit i <;> cases q.testBit i <;> rfl
theorem nI_nd (a q : Nat) : nI a &&& (nI q ^^^ (-1)) = nI (nd a q) := by
  apply Int32.toBitVec_inj.mp
  have h1 : (-1 : Int32).toBitVec = BitVec.allOnes 32 := by decide +kernel
  rw [Int32.toBitVec_and, Int32.toBitVec_xor, h1, nI_bv, nI_bv, nI_bv]
  apply BitVec.eq_of_getLsbD_eq
  intro i hi
  rw [BitVec.getLsbD_and, BitVec.getLsbD_xor, BitVec.getLsbD_ofNat, BitVec.getLsbD_ofNat, BitVec.getLsbD_ofNat, nd_bit, BitVec.getLsbD_allOnes]
  simp [hi]
theorem sh_31 (p : Nat) (h : p < 32) : nI p &&& 31 = nI p := by
  have : ∀ k : Fin 32, nI k.1 &&& 31 = nI k.1 := by decide +kernel
  exact this ⟨p, h⟩
theorem sh_smod (p : Nat) (h : p < 32) : ((nI p).toBitVec.smod 32).toNat = p := by
  have : ∀ k : Fin 32, ((nI k.1).toBitVec.smod 32).toNat = k.1 := by decide +kernel
  exact this ⟨p, h⟩
theorem nI_shl1 (p : Nat) (h : p < 31) : nI 1 <<< (nI p &&& nI 31) = nI (2 ^ p) := by
  rw [show nI 31 = 31 from rfl, sh_31 p (by omega), pk_shlN (nI p) p (sh_smod p (by omega))]
  · rw [Nat.one_mul]
  · rw [Nat.one_mul]
    exact Nat.pow_lt_pow_right (by omega) (by omega)
theorem nI_shl1' (p : Nat) (h : p < 31) : nI 1 <<< (nI p &&& 31) = nI (2 ^ p) := nI_shl1 p h
theorem nI_shrp (s p : Nat) (hs : s < 2 ^ 31) (h : p < 31) : nI s >>> (nI p &&& 31) = nI (s / 2 ^ p) := by
  rw [sh_31 p (by omega), pk_shrN hs (nI p) p (sh_smod p (by omega))]
/-- the bit p of s, as a number -/
def bit (s p : Nat) : Nat := s / 2 ^ p % 2
theorem bit_lt (s p : Nat) : bit s p < 2 := Nat.mod_lt _ (by decide)
theorem nI_bit (s p : Nat) : nI (s / 2 ^ p) &&& nI 1 = nI (bit s p) := by
  rw [nI_and, Nat.and_one_is_mod]
  rfl
theorem bit_0 (s p : Nat) : bit s p = 0 ↔ s.testBit p = false := by
  unfold bit
  rw [Nat.testBit_eq_decide_div_mod_eq]
  have := Nat.mod_lt (s / 2 ^ p) (show 2 > 0 by decide)
  rw [decide_eq_false_iff_not]
  omega
theorem bit_1 (s p : Nat) : bit s p = 1 ↔ s.testBit p = true := by
  unfold bit
  rw [Nat.testBit_eq_decide_div_mod_eq]
  rw [decide_eq_true_iff]
theorem or_lt {a b n : Nat} (ha : a < 2 ^ n) (hb : b < 2 ^ n) : a ||| b < 2 ^ n := Nat.or_lt_two_pow ha hb
theorem nd_lt {a q n : Nat} (ha : a < 2 ^ n) : nd a q < 2 ^ n := by
  apply Nat.lt_pow_two_of_testBit
  intro i hi
  rw [nd_bit, Nat.testBit_lt_two_pow (Nat.lt_of_lt_of_le ha (Nat.pow_le_pow_right (by decide) hi))]
  rfl
theorem and_lt {a b n : Nat} (ha : a < 2 ^ n) : a &&& b < 2 ^ n := by
  apply Nat.lt_pow_two_of_testBit
  intro i hi
  rw [Nat.testBit_and, Nat.testBit_lt_two_pow (Nat.lt_of_lt_of_le ha (Nat.pow_le_pow_right (by decide) hi))]
  rfl
theorem p2_lt {p n : Nat} (h : p < n) : 2 ^ p < 2 ^ n := Nat.pow_lt_pow_right (by decide) h
