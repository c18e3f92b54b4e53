/-! bits of a relation's pairs -/
theorem nx_and2 (a b : Nat) : nI a &&& nI b = nI (a &&& b) := by
  apply Int32.toBitVec_inj.1
  show BitVec.ofNat 32 a &&& BitVec.ofNat 32 b = BitVec.ofNat 32 (a &&& b)
  apply BitVec.eq_of_getLsbD_eq
  intro i hi
  simp [hi]
theorem i2c_nI {n : Nat} (h : n < 65536) : ((nI n).toUInt32 % 65536).toInt32 = nI n := by
  have e : (nI n).toUInt32 % 65536 = (nI n).toUInt32 := by
    apply UInt32.toNat_inj.mp
    rw [UInt32.toNat_mod]
    show (BitVec.ofNat 32 n).toNat % 65536 = (BitVec.ofNat 32 n).toNat
    rw [BitVec.toNat_ofNat, Nat.mod_eq_of_lt (show n < 2 ^ 32 by omega)]
    omega
  rw [e]; rfl
theorem orp16 {a k : Nat} (ha : a < 65536) (hk : k < 16) : a ||| 2 ^ k < 65536 := by
  have : 2 ^ k < 2 ^ 16 := Nat.pow_lt_pow_right (by decide) hk
  exact Nat.or_lt_two_pow (n := 16) ha this
