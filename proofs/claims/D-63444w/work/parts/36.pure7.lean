/-! counting bits as the library does it; small laws for the readers -/
def bL1 (x : Int64) : Int64 := x - ((x.toUInt64 >>> ((nI 1).toInt64.toUInt64 &&& Int64.toUInt64 63)).toInt64 &&& 6148914691236517205)
def bL2 (x : Int64) : Int64 := (x &&& 3689348814741910323) + ((x.toUInt64 >>> ((nI 2).toInt64.toUInt64 &&& Int64.toUInt64 63)).toInt64 &&& 3689348814741910323)
def bL3 (x : Int64) : Int64 := (x + (x.toUInt64 >>> ((nI 4).toInt64.toUInt64 &&& Int64.toUInt64 63)).toInt64) &&& 1085102592571150095
def bL4 (k : Nat) (x : Int64) : Int64 := x + (x.toUInt64 >>> ((nI k).toInt64.toUInt64 &&& Int64.toUInt64 63)).toInt64
def bcL (x : Int64) : Int32 := (bL4 32 (bL4 16 (bL4 8 (bL3 (bL2 (bL1 x)))))).toInt32 &&& nI 127
def bI1 (x : Int32) : Int32 := x - ((x.toUInt32 >>> ((nI 1).toUInt32 &&& Int32.toUInt32 31)).toInt32 &&& nI 1431655765)
def bI2 (x : Int32) : Int32 := (x &&& nI 858993459) + ((x.toUInt32 >>> ((nI 2).toUInt32 &&& Int32.toUInt32 31)).toInt32 &&& nI 858993459)
def bI3 (x : Int32) : Int32 := (x + (x.toUInt32 >>> ((nI 4).toUInt32 &&& Int32.toUInt32 31)).toInt32) &&& nI 252645135
def bI4 (k : Nat) (x : Int32) : Int32 := x + (x.toUInt32 >>> ((nI k).toUInt32 &&& Int32.toUInt32 31)).toInt32
def bcN (n : Nat) : Nat := n % 2 + n / 2 % 2 + n / 4 % 2
theorem bcI_lem : ∀ n, n < 8 → bI4 16 (bI4 8 (bI3 (bI2 (bI1 (nI n))))) &&& nI 63 = nI (bcN n) := by decide +kernel
def rwC (x : Int64) (z : Nat) : Int32 := bcL x >>> ((nI 2 * (nI 3 - nI (bcN z))) &&& 31)
theorem bd_lem : ∀ y, y < 8 → ∀ z, z < 8 → nI y &&& (nI z ^^^ (-1)) = nI (y - (y &&& z)) := by decide +kernel
theorem mk_t {wt : Bool} {n : Nat} (h : wt = true ∨ 12 ≤ n) : bI true = bI (!mkB wt n) := by
  have : mkB wt n = false := by
    unfold mkB
    refine decide_eq_false (fun ⟨h1, h2⟩ => ?_)
    rcases h with h | h
    · rw [h] at h1; cases h1
    · omega
  rw [this]; rfl
theorem mk_f {wt : Bool} {n : Nat} (h : wt = false ∧ n < 12) : bI false = bI (!mkB wt n) := by
  have : mkB wt n = true := by unfold mkB; exact decide_eq_true h
  rw [this]; rfl
theorem bd_t {cl : Bool} {y z : Nat} (h : cl = true) (h2 : y - (y &&& z) = 0) : bI true = bI (cl && decide (y &&& z = y)) := by
  have := @Nat.and_le_left y z
  rw [h, decide_eq_true (show y &&& z = y by omega)]; rfl
theorem bd_f {cl : Bool} {y z : Nat} (h : cl = false ∨ y - (y &&& z) ≠ 0) : bI false = bI (cl && decide (y &&& z = y)) := by
  have := @Nat.and_le_left y z
  rcases h with h | h
  · rw [h]; rfl
  · rw [decide_eq_false (show ¬ (y &&& z = y) by omega), Bool.and_false]
