/-! the pure law, fourth part: counting bits -/
theorem and_sp {p u : Nat} (q v : Nat) (hp : p < 256) (hu : u < 256) : (p + 256 * q) &&& (u + 256 * v) = (p &&& u) + 256 * (q &&& v) := by
  have h1 : (p &&& u) < 2 ^ 8 := Nat.and_lt_two_pow _ hu
  apply Nat.eq_of_testBit_eq
  intro i
  rw [Nat.testBit_and, show p + 256 * q = 2 ^ 8 * q + p by omega, show u + 256 * v = 2 ^ 8 * v + u by omega, show (p &&& u) + 256 * (q &&& v) = 2 ^ 8 * (q &&& v) + (p &&& u) by omega, Nat.testBit_two_pow_mul_add _ hp, Nat.testBit_two_pow_mul_add _ hu, Nat.testBit_two_pow_mul_add _ h1]
  by_cases h : i < 8
  · rw [if_pos h, if_pos h, if_pos h, Nat.testBit_and]
  · rw [if_neg h, if_neg h, if_neg h, Nat.testBit_and]
def F1 (v X : Nat) : Nat := X - (X / 2 &&& v)
def F2 (v X : Nat) : Nat := (X &&& v) + (X / 4 &&& v)
def F3 (v X : Nat) : Nat := (X + X / 16) &&& v
theorem f1a : ∀ a, a < 256 → ∀ c, c < 2 → (a / 2 + 128 * c) &&& 85 = a / 2 &&& 85 := by decide +kernel
theorem f2a : ∀ a, a < 256 → ∀ c, c < 4 → (a / 4 + 64 * c) &&& 51 = a / 4 &&& 51 := by decide +kernel
theorem f3a : ∀ a, a < 69 → ∀ c, c < 5 → (a + a / 16 + 16 * c) &&& 15 = (a + a / 16) &&& 15 := by decide +kernel
theorem F1_sp {a b v : Nat} (ha : a < 256) : F1 (85 + 256 * v) (a + 256 * b) = F1 85 a + 256 * F1 v b := by
  unfold F1
  have e : (a + 256 * b) / 2 = (a / 2 + 128 * (b % 2)) + 256 * (b / 2) := by omega
  rw [e, and_sp _ _ (by omega) (by decide), f1a a ha _ (Nat.mod_lt _ (by decide))]
  have h1 : a / 2 &&& 85 ≤ a / 2 := Nat.and_le_left
  have h2 : b / 2 &&& v ≤ b / 2 := Nat.and_le_left
  omega
theorem F2_sp {a b v : Nat} (ha : a < 256) : F2 (51 + 256 * v) (a + 256 * b) = F2 51 a + 256 * F2 v b := by
  unfold F2
  have e : (a + 256 * b) / 4 = (a / 4 + 64 * (b % 4)) + 256 * (b / 4) := by omega
  rw [e, and_sp b v ha (by decide), and_sp (b / 4) v (show a / 4 + 64 * (b % 4) < 256 by omega) (by decide), f2a a ha _ (Nat.mod_lt _ (by decide))]
  omega
theorem F3_sp {a b v : Nat} (ha : a < 69) (hb : b % 16 < 5) : F3 (15 + 256 * v) (a + 256 * b) = F3 15 a + 256 * F3 v b := by
  unfold F3
  have e : (a + 256 * b) + (a + 256 * b) / 16 = (a + a / 16 + 16 * (b % 16)) + 256 * (b + b / 16) := by omega
  rw [e, and_sp _ _ (by omega) (by decide), f3a a ha _ hb]
def pb8 (a : Nat) : Nat := a % 2 + a / 2 % 2 + a / 4 % 2 + a / 8 % 2 + a / 16 % 2 + a / 32 % 2 + a / 64 % 2 + a / 128 % 2
theorem pb_F : ∀ a, a < 256 → F1 85 a < 256 ∧ F2 51 (F1 85 a) < 69 ∧ F2 51 (F1 85 a) % 16 < 5 ∧ F3 15 (F2 51 (F1 85 a)) = pb8 a := by decide +kernel
/-- the masks of k bytes -/
def mkN (u : Nat) : Nat → Nat
  | 0 => 0
  | k + 1 => u + 256 * mkN u k
/-- a number out of bytes -/
def byN (g : Nat → Nat) : Nat → Nat → Nat
  | _, 0 => 0
  | j, k + 1 => g j + 256 * byN g (j + 1) k
theorem F1_by {g : Nat → Nat} (hg : ∀ j, g j < 256) : ∀ k j, F1 (mkN 85 k) (byN g j k) = byN (fun i => F1 85 (g i)) j k := by
  intro k
  induction k with
  | zero => intro j; simp [mkN, byN, F1]
  | succ k ih => intro j; rw [mkN, byN, byN, F1_sp (hg j), ih]
theorem F2_by {g : Nat → Nat} (hg : ∀ j, g j < 256) : ∀ k j, F2 (mkN 51 k) (byN g j k) = byN (fun i => F2 51 (g i)) j k := by
  intro k
  induction k with
  | zero => intro j; simp [mkN, byN, F2]
  | succ k ih => intro j; rw [mkN, byN, byN, F2_sp (hg j), ih]
theorem F3_by {g : Nat → Nat} (hg : ∀ j, g j < 69) (hg2 : ∀ j, g j % 16 < 5) : ∀ k j, F3 (mkN 15 k) (byN g j k) = byN (fun i => F3 15 (g i)) j k := by
  intro k
  induction k with
  | zero => intro j; simp [mkN, byN, F3]
  | succ k ih =>
    intro j
    rw [mkN, byN, byN, F3_sp (hg j) ?_, ih]
    cases k with
    | zero => rw [byN]; decide
    | succ k => rw [byN]; have := hg2 (j + 1); omega
theorem by_X {X : Nat} : ∀ k j, X / 256 ^ j < 256 ^ k → byN (fun i => X / 256 ^ i % 256) j k = X / 256 ^ j := by
  intro k
  induction k with
  | zero => intro j h; rw [Nat.pow_zero] at h; rw [byN]; exact (Nat.lt_one_iff.mp h).symm
  | succ k ih =>
    intro j h
    have e : X / 256 ^ (j + 1) = X / 256 ^ j / 256 := by rw [Nat.pow_succ, Nat.div_div_eq_div_mul]
    rw [byN, ih (j + 1) (by rw [e, Nat.pow_succ] at *; omega), e]
    omega
theorem dA {W a R : Nat} (h : W = a + 256 * R) (ha : a ≤ 8) : W / 256 = R := by omega
theorem dB {W R a b : Nat} {P Q : Nat} (h : W = a + 65536 * P) (h2 : R = b + 65536 * Q) (ha : a ≤ 3000) (hb : b ≤ 3000) : (W + R) / 65536 = P + Q := by omega
theorem dC {W1 W2 W3 W4 a b c d P Q R S : Nat} (h1 : W1 = a + 4294967296 * P) (h2 : W2 = b + 4294967296 * Q) (h3 : W3 = c + 4294967296 * R) (h4 : W4 = d + 4294967296 * S) (ha : a ≤ 200000000) (hb : b ≤ 200000000) (hc : c ≤ 200000000) (hd : d ≤ 200000000) : (W1 + W2 + (W3 + W4)) / 4294967296 = P + Q + (R + S) := by omega
theorem cnt_lem {e : Nat → Nat} (h : ∀ j, e j ≤ 8) {W W1 W2 : Nat} (hW : W = byN e 0 8) (hW1 : W1 = W + W / 256) (hW2 : W2 = W1 + W1 / 65536) : (W2 + W2 / 4294967296) % 128 = e 0 + e 1 + e 2 + e 3 + e 4 + e 5 + e 6 + e 7 ∧ W2 + W2 / 4294967296 < 2 ^ 64 ∧ W1 < 2 ^ 64 ∧ W2 < 2 ^ 64 ∧ W < 2 ^ 64 := by
  have h0 := h 0; have h1 := h 1; have h2 := h 2; have h3 := h 3; have h4 := h 4; have h5 := h 5; have h6 := h 6; have h7 := h 7
  have r7 : byN e 7 1 = e 7 := by simp [byN]
  have r6 : byN e 6 2 = e 6 + 256 * byN e 7 1 := rfl
  have r5 : byN e 5 3 = e 5 + 256 * byN e 6 2 := rfl
  have r4 : byN e 4 4 = e 4 + 256 * byN e 5 3 := rfl
  have r3 : byN e 3 5 = e 3 + 256 * byN e 4 4 := rfl
  have r2 : byN e 2 6 = e 2 + 256 * byN e 3 5 := rfl
  have r1 : byN e 1 7 = e 1 + 256 * byN e 2 6 := rfl
  have r0 : W = e 0 + 256 * byN e 1 7 := hW
  generalize byN e 7 1 = R7 at *
  generalize byN e 6 2 = R6 at *
  generalize byN e 5 3 = R5 at *
  generalize byN e 4 4 = R4 at *
  generalize byN e 3 5 = R3 at *
  generalize byN e 2 6 = R2 at *
  generalize byN e 1 7 = R1 at *
  generalize e 0 = a0 at *; generalize e 1 = a1 at *; generalize e 2 = a2 at *; generalize e 3 = a3 at *; generalize e 4 = a4 at *; generalize e 5 = a5 at *; generalize e 6 = a6 at *; generalize e 7 = a7 at *
  clear h hW
  rw [dA r0 h0] at hW1
  have b2 : W1 / 65536 = R2 + R3 := by
    rw [hW1]
    refine dB (a := a0 + 256 * a1) (b := a1 + 256 * a2) ?_ ?_ ?_ ?_
    · clear hW1 hW2 r2 r3 r4 r5 r6 r7; omega
    · clear hW1 hW2 r0 r3 r4 r5 r6 r7; omega
    · clear hW1 hW2 r0 r1 r2 r3 r4 r5 r6 r7; omega
    · clear hW1 hW2 r0 r1 r2 r3 r4 r5 r6 r7; omega
  rw [b2, hW1] at hW2
  have q3 : R3 = (a3 + 256 * a4 + 65536 * a5 + 16777216 * a6) + 4294967296 * R7 := by clear hW1 hW2 b2 r0 r1 r2 r7; omega
  have q2 : R2 = (a2 + 256 * a3 + 65536 * a4 + 16777216 * a5) + 4294967296 * R6 := by clear hW1 hW2 b2 r0 r1 r6 r7 q3; omega
  have q1 : R1 = (a1 + 256 * a2 + 65536 * a3 + 16777216 * a4) + 4294967296 * R5 := by clear hW1 hW2 b2 r0 r5 r6 r7 q3 q2; omega
  have q0 : W = (a0 + 256 * a1 + 65536 * a2 + 16777216 * a3) + 4294967296 * R4 := by clear hW1 hW2 b2 r4 r5 r6 r7 q3 q2 q1; omega
  have b3 : W2 / 4294967296 = R4 + R5 + (R6 + R7) := by
    rw [hW2]
    refine dC q0 q1 q2 q3 ?_ ?_ ?_ ?_ <;> (clear hW1 hW2 b2 r0 r1 r2 r3 r4 r5 r6 r7 q0 q1 q2 q3; omega)
  rw [b3]
  clear b3 b2 q0 q1 q2 q3
  have l7 : R7 ≤ 8 := by omega
  have l6 : R6 ≤ 3000 := by clear r0 r1 r2 r3 r4 r5 hW1 hW2; omega
  have l5 : R5 ≤ 800000 := by clear r0 r1 r2 r3 r4 r6 hW1 hW2; omega
  have l4 : R4 ≤ 210000000 := by clear r0 r1 r2 r3 r5 r6 hW1 hW2; omega
  have l3 : R3 ≤ 60000000000 := by clear r0 r1 r2 r4 r5 r6 hW1 hW2; omega
  have l2 : R2 ≤ 16000000000000 := by clear r0 r1 r3 r4 r5 r6 hW1 hW2; omega
  have l1 : R1 ≤ 5000000000000000 := by clear r0 r2 r3 r4 r5 r6 hW1 hW2; omega
  have t : W2 + (R4 + R5 + (R6 + R7)) = (a0 + a1 + a2 + a3 + a4 + a5 + a6 + a7) + 256 * (R1 + R2 + R3 + R4 + R5 + R6 + R7) := by
    rw [hW2]; clear l1 l2 l3 l4 l5 l6 l7 hW1 hW2; omega
  refine ⟨?_, ?_, ?_, ?_, ?_⟩
  · rw [t]; clear t r0 r1 r2 r3 r4 r5 r6 r7 hW1 hW2; omega
  · rw [t]; clear t r0 r1 r2 r3 r4 r5 r6 r7 hW1 hW2; omega
  · clear t r1 r2 r3 r4 r5 r6 r7 hW2; omega
  · clear t r1 r2 r3 r4 r5 r6 r7 hW1; omega
  · clear t r1 r2 r3 r4 r5 r6 r7 hW1 hW2; omega
