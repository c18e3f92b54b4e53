/-! the pure law, fifth part: Long.bitCount counts -/
abbrev UX (x : Int64) : Nat := x.toBitVec.toNat
theorem ushr_nat (s : Nat) (hs : s < 64) (x : Int64) : UX (x.toUInt64 >>> ((nI s).toInt64.toUInt64 &&& Int64.toUInt64 63)).toInt64 = UX x / 2 ^ s := by
  show (x.toUInt64 >>> ((nI s).toInt64.toUInt64 &&& Int64.toUInt64 63)).toBitVec.toNat = x.toUInt64.toBitVec.toNat / 2 ^ s
  rw [UInt64.toBitVec_shiftRight]
  show (x.toUInt64.toBitVec >>> (((nI s).toInt64.toUInt64 &&& Int64.toUInt64 63).toBitVec % 64).toNat).toNat = _
  rw [su64 s hs, BitVec.toNat_ushiftRight, Nat.shiftRight_eq_div_pow]
theorem and_nat (x y : Int64) : UX (x &&& y) = UX x &&& UX y := by
  unfold UX; rw [Int64.toBitVec_and, BitVec.toNat_and]
theorem add_nat {x y : Int64} (h : UX x + UX y < 2 ^ 64) : UX (x + y) = UX x + UX y := by
  unfold UX at *; rw [Int64.toBitVec_add, BitVec.toNat_add, Nat.mod_eq_of_lt h]
theorem sub_nat {x y : Int64} (h : UX y ≤ UX x) : UX (x - y) = UX x - UX y := by
  unfold UX at *; rw [Int64.toBitVec_sub, BitVec.toNat_sub_of_le h]
theorem mk85 : UX 6148914691236517205 = mkN 85 8 := by decide +kernel
theorem mk51 : UX 3689348814741910323 = mkN 51 8 := by decide +kernel
theorem mk15 : UX 1085102592571150095 = mkN 15 8 := by decide +kernel
theorem u1 (x : Int64) : UX (bL1 x) = F1 (mkN 85 8) (UX x) := by
  unfold bL1 F1
  have h : UX ((x.toUInt64 >>> ((nI 1).toInt64.toUInt64 &&& Int64.toUInt64 63)).toInt64 &&& 6148914691236517205) = UX x / 2 &&& mkN 85 8 := by
    rw [and_nat, ushr_nat 1 (by decide), mk85]
  have h2 : UX x / 2 &&& mkN 85 8 ≤ UX x / 2 := Nat.and_le_left
  rw [sub_nat (by rw [h]; omega), h]
theorem u2 {x : Int64} (hb : F2 (mkN 51 8) (UX x) < 2 ^ 64) : UX (bL2 x) = F2 (mkN 51 8) (UX x) := by
  unfold bL2
  unfold F2 at *
  have h1 : UX (x &&& 3689348814741910323) = UX x &&& mkN 51 8 := by rw [and_nat, mk51]
  have h2 : UX ((x.toUInt64 >>> ((nI 2).toInt64.toUInt64 &&& Int64.toUInt64 63)).toInt64 &&& 3689348814741910323) = UX x / 4 &&& mkN 51 8 := by
    rw [and_nat, ushr_nat 2 (by decide), mk51]
  rw [add_nat (by rw [h1, h2]; exact hb), h1, h2]
theorem u3 {x : Int64} (hb : UX x + UX x / 16 < 2 ^ 64) : UX (bL3 x) = F3 (mkN 15 8) (UX x) := by
  unfold bL3 F3
  have h2 : UX (x.toUInt64 >>> ((nI 4).toInt64.toUInt64 &&& Int64.toUInt64 63)).toInt64 = UX x / 16 := ushr_nat 4 (by decide) x
  rw [and_nat, add_nat (by rw [h2]; exact hb), h2, mk15]
theorem u4 {k : Nat} (hk : k < 64) {x : Int64} (hb : UX x + UX x / 2 ^ k < 2 ^ 64) : UX (bL4 k x) = UX x + UX x / 2 ^ k := by
  unfold bL4
  have h2 := ushr_nat k hk x
  rw [add_nat (by rw [h2]; exact hb), h2]
theorem u5 (x : Int64) : x.toInt32 &&& nI 127 = nI (UX x % 128) := by
  apply Int32.toBitVec_inj.mp
  rw [Int32.toBitVec_and]
  show x.toInt32.toBitVec &&& BitVec.ofNat 32 127 = BitVec.ofNat 32 (UX x % 128)
  apply BitVec.eq_of_getLsbD_eq
  intro i hi
  rw [Int64.toBitVec_toInt32, BitVec.getLsbD_and, BitVec.getLsbD_signExtend]
  have e127 : ∀ i, i < 32 → (BitVec.ofNat 32 127).getLsbD i = decide (i < 7) := by decide +kernel
  rw [e127 i hi, BitVec.getLsbD_ofNat, show (128 : Nat) = 2 ^ 7 from rfl, Nat.testBit_mod_two_pow]
  simp [hi, show i < 64 by omega, BitVec.getLsbD]
  exact Bool.and_comm _ _
theorem by_lt {g : Nat → Nat} (hg : ∀ j, g j < 256) : ∀ k j, byN g j k < 256 ^ k := by
  intro k
  induction k with
  | zero => intro j; simp [byN]
  | succ k ih => intro j; rw [byN, Nat.pow_succ]; have := ih (j + 1); have := hg j; omega
def popN (X : Nat) : Nat := pb8 (X / 256 ^ 0 % 256) + pb8 (X / 256 ^ 1 % 256) + pb8 (X / 256 ^ 2 % 256) + pb8 (X / 256 ^ 3 % 256) + pb8 (X / 256 ^ 4 % 256) + pb8 (X / 256 ^ 5 % 256) + pb8 (X / 256 ^ 6 % 256) + pb8 (X / 256 ^ 7 % 256)
theorem pb_8 (a : Nat) : pb8 a ≤ 8 := by unfold pb8; omega
theorem bcL_pop (x : Int64) : bcL x = nI (popN (UX x)) := by
  have hx : UX x < 2 ^ 64 := x.toBitVec.isLt
  have hg : ∀ j, (fun i => UX x / 256 ^ i % 256) j < 256 := fun j => Nat.mod_lt _ (by decide)
  have eX : byN (fun i => UX x / 256 ^ i % 256) 0 8 = UX x := by
    have := by_X (X := UX x) 8 0 (by rw [Nat.pow_zero, Nat.div_one]; exact hx)
    rwa [Nat.pow_zero, Nat.div_one] at this
  have e1 : UX (bL1 x) = byN (fun i => F1 85 (UX x / 256 ^ i % 256)) 0 8 := (u1 x).trans ((congrArg (F1 (mkN 85 8)) eX.symm).trans (F1_by hg 8 0))
  have g1 : ∀ j, (fun i => F1 85 (UX x / 256 ^ i % 256)) j < 256 := fun j => (pb_F _ (hg j)).1
  have e2' : F2 (mkN 51 8) (UX (bL1 x)) = byN (fun i => F2 51 (F1 85 (UX x / 256 ^ i % 256))) 0 8 := by rw [e1]; exact F2_by g1 8 0
  have g2 : ∀ j, (fun i => F2 51 (F1 85 (UX x / 256 ^ i % 256))) j < 69 := fun j => (pb_F _ (hg j)).2.1
  have b2 : byN (fun i => F2 51 (F1 85 (UX x / 256 ^ i % 256))) 0 8 < 256 ^ 8 := by_lt (fun j => Nat.lt_trans (g2 j) (by decide)) 8 0
  have e2 : UX (bL2 (bL1 x)) = byN (fun i => F2 51 (F1 85 (UX x / 256 ^ i % 256))) 0 8 := by rw [u2 (by rw [e2']; exact b2), e2']
  have b3 : byN (fun i => F2 51 (F1 85 (UX x / 256 ^ i % 256))) 0 8 < 69 * 256 ^ 7 := by
    have h := by_lt (g := fun i => F2 51 (F1 85 (UX x / 256 ^ i % 256))) (fun j => Nat.lt_trans (g2 j) (by decide)) 7 0
    have g7 := g2 7; have g6 := g2 6; have g5 := g2 5; have g4 := g2 4; have g3 := g2 3; have g22 := g2 2; have g11 := g2 1; have g0 := g2 0
    simp only [byN, Nat.zero_add, Nat.reduceAdd] at *
    omega
  have e3 : UX (bL3 (bL2 (bL1 x))) = byN (fun i => pb8 (UX x / 256 ^ i % 256)) 0 8 := by
    rw [u3 (by rw [e2]; omega), e2, F3_by g2 (fun j => (pb_F _ (hg j)).2.2.1)]
    congr 1
    funext i
    exact (pb_F _ (hg i)).2.2.2
  obtain ⟨c1, c2, c3, c4, c5⟩ := cnt_lem (e := fun i => pb8 (UX x / 256 ^ i % 256)) (fun j => pb_8 _) e3 rfl rfl
  have e4 := u4 (k := 8) (by decide) (x := bL3 (bL2 (bL1 x))) c3
  rw [show (2 : Nat) ^ 8 = 256 from rfl] at e4
  rw [← e4] at c1 c2 c4
  have e5 := u4 (k := 16) (by decide) (x := bL4 8 (bL3 (bL2 (bL1 x)))) c4
  rw [show (2 : Nat) ^ 16 = 65536 from rfl] at e5
  rw [← e5] at c1 c2
  have e6 := u4 (k := 32) (by decide) (x := bL4 16 (bL4 8 (bL3 (bL2 (bL1 x))))) c2
  rw [show (2 : Nat) ^ 32 = 4294967296 from rfl] at e6
  rw [← e6] at c1
  unfold bcL
  rw [u5, c1]
  rfl
