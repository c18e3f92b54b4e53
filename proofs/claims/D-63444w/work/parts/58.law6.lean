/-! the pure law, sixth part: rows of a cylinder -/
def sumN (g : Nat → Nat) : Nat → Nat
  | 0 => 0
  | k + 1 => sumN g k + g k
theorem sumN_c {g h : Nat → Nat} : ∀ k, (∀ n, n < k → g n = h n) → sumN g k = sumN h k := by
  intro k
  induction k with
  | zero => intro _; rfl
  | succ k ih => intro e; rw [sumN, sumN, ih (fun n hn => e n (by omega)), e k (by omega)]
theorem pb8_m (Y : Nat) : pb8 (Y % 256) = Y % 2 + Y / 2 % 2 + Y / 4 % 2 + Y / 8 % 2 + Y / 16 % 2 + Y / 32 % 2 + Y / 64 % 2 + Y / 128 % 2 := by
  unfold pb8
  have h1 : Y % 256 % 2 = Y % 2 := by omega
  have h2 : Y % 256 / 2 % 2 = Y / 2 % 2 := by omega
  have h3 : Y % 256 / 4 % 2 = Y / 4 % 2 := by omega
  have h4 : Y % 256 / 8 % 2 = Y / 8 % 2 := by omega
  have h5 : Y % 256 / 16 % 2 = Y / 16 % 2 := by omega
  have h6 : Y % 256 / 32 % 2 = Y / 32 % 2 := by omega
  have h7 : Y % 256 / 64 % 2 = Y / 64 % 2 := by omega
  have h8 : Y % 256 / 128 % 2 = Y / 128 % 2 := by omega
  rw [h1, h2, h3, h4, h5, h6, h7, h8]
theorem pb8_j {X : Nat} {g : Nat → Nat} (hg : ∀ n, X / 2 ^ n % 2 = g n) (j : Nat) : pb8 (X / 256 ^ j % 256) = g (8 * j) + g (8 * j + 1) + g (8 * j + 2) + g (8 * j + 3) + g (8 * j + 4) + g (8 * j + 5) + g (8 * j + 6) + g (8 * j + 7) := by
  have e : ∀ i, X / 256 ^ j / 2 ^ i = X / 2 ^ (8 * j + i) := by
    intro i
    rw [Nat.div_div_eq_div_mul, Nat.pow_add, Nat.pow_mul]
  rw [pb8_m, ← hg, ← hg, ← hg, ← hg, ← hg, ← hg, ← hg, ← hg, ← e 1, ← e 2, ← e 3, ← e 4, ← e 5, ← e 6, ← e 7]
  have e0 := e 0
  rw [Nat.pow_zero, Nat.div_one, Nat.add_zero] at e0
  rw [← e0]
theorem popN_s {X : Nat} {g : Nat → Nat} (hg : ∀ n, X / 2 ^ n % 2 = g n) : popN X = sumN g 64 := by
  unfold popN
  rw [pb8_j hg 0, pb8_j hg 1, pb8_j hg 2, pb8_j hg 3, pb8_j hg 4, pb8_j hg 5, pb8_j hg 6, pb8_j hg 7]
  simp only [sumN, Nat.reduceMul, Nat.reduceAdd, Nat.zero_add, Nat.mul_zero]
  ac_rfl
def yB (x : Int64) (n : Nat) : Nat := if tb x n = true then 1 else 0
theorem yB_s (x : Int64) : popN (UX x) = sumN (yB x) 64 := by
  apply popN_s
  intro n
  unfold yB tb
  rw [show x.toBitVec.getLsbD n = (UX x).testBit n from rfl, Nat.testBit_eq_decide_div_mod_eq]
  by_cases h : UX x / 2 ^ n % 2 = 1
  · rw [if_pos (decide_eq_true h), h]
  · rw [if_neg (by rw [decide_eq_false h]; decide)]; omega
/-- the first assignment that agrees with n on the variables of z -/
def rpF (z n : Nat) : Nat := (if z.testBit 0 then n % 4 else 0) + (if z.testBit 1 then 4 * (n / 4 % 4) else 0) + (if z.testBit 2 then 16 * (n / 16) else 0)
theorem rpF_le : ∀ z, z < 8 → ∀ n, n < 64 → rpF z n ≤ n := by decide +kernel
theorem rpF_ag : ∀ z, z < 8 → ∀ n, n < 64 → agR n (rpF z n) z 3 = true := by decide +kernel
theorem rpF_no : ∀ z, z < 8 → ∀ n, n < 64 → rpF z n = n → ∀ m, m < n → agR n m z 3 = false := by decide +kernel
def CY (x : Int64) (z : Nat) : Prop := ∀ n m, n < 64 → m < 64 → agR n m z 3 = true → tb x n = tb x m
theorem fiR_f {x : Int64} {s n : Nat} : ∀ M, (∃ m, m < M ∧ tb x m = true ∧ agR n m s 3 = true) → fiR x s n M = false := by
  intro M
  induction M with
  | zero => rintro ⟨m, h, _⟩; exact absurd h (Nat.not_lt_zero m)
  | succ M ih =>
    rintro ⟨m, h1, h2, h3⟩
    rw [fiR]
    by_cases e : m = M
    · subst e; rw [h2, h3]; simp
    · rw [ih ⟨m, by omega, h2, h3⟩, Bool.false_and]
theorem fiR_t {x : Int64} {s n : Nat} : ∀ M, (∀ m, m < M → agR n m s 3 = false) → fiR x s n M = tb x n := by
  intro M
  induction M with
  | zero => intro _; rfl
  | succ M ih => intro h; rw [fiR, ih (fun m hm => h m (by omega)), h M (by omega)]; simp
theorem fiR_cy {x : Int64} {z n : Nat} (hz : z < 8) (hn : n < 64) (hx : CY x z) : fiR x z n n = (tb x n && decide (rpF z n = n)) := by
  by_cases h : rpF z n = n
  · rw [fiR_t n (rpF_no z hz n hn h), decide_eq_true h, Bool.and_true]
  · rw [decide_eq_false h, Bool.and_false]
    have hl := rpF_le z hz n hn
    have e := hx n (rpF z n) hn (by omega) (rpF_ag z hz n hn)
    cases ht : tb x n with
    | true => exact fiR_f n ⟨rpF z n, by omega, by rw [← e]; exact ht, rpF_ag z hz n hn⟩
    | false =>
      have : ∀ M, fiR x z n M = false := by
        intro M
        induction M with
        | zero => exact ht
        | succ M ih => rw [fiR, ih, Bool.false_and]
      exact this n
theorem cnR_s {x : Int64} {z : Nat} (hz : z < 8) (hx : CY x z) : ∀ N, N ≤ 64 → cnR x z N = sumN (fun n => if rpF z n = n then yB x n else 0) N := by
  intro N
  induction N with
  | zero => intro _; rfl
  | succ N ih =>
    intro hN
    rw [cnR, sumN, fiR_cy hz (by omega) hx, ih (by omega)]
    unfold yB
    by_cases h1 : rpF z N = N
    · rw [if_pos h1, decide_eq_true h1, Bool.and_true]
      by_cases h2 : tb x N = true
      · rw [if_pos h2, if_pos h2]
      · rw [if_neg h2, if_neg h2, Nat.add_zero]
    · rw [if_neg h1, decide_eq_false h1, Bool.and_false, if_neg (by decide), Nat.add_zero]
