/-! the pure law, seventh part: a cylinder's members -/
theorem sum_z0 {g : Nat → Nat} : sumN (fun n => g (rpF 0 n)) 64 = 4 ^ (3 - bcN 0) * sumN (fun n => if rpF 0 n = n then g n else 0) 64 := by
  have t0 : Nat.testBit 0 0 = false := by decide
  have t1 : Nat.testBit 0 1 = false := by decide
  have t2 : Nat.testBit 0 2 = false := by decide
  simp [sumN, rpF, bcN, t0, t1, t2]
  try omega
theorem sum_z1 {g : Nat → Nat} : sumN (fun n => g (rpF 1 n)) 64 = 4 ^ (3 - bcN 1) * sumN (fun n => if rpF 1 n = n then g n else 0) 64 := by
  have t0 : Nat.testBit 1 0 = true := by decide
  have t1 : Nat.testBit 1 1 = false := by decide
  have t2 : Nat.testBit 1 2 = false := by decide
  simp [sumN, rpF, bcN, t0, t1, t2]
  try omega
theorem sum_z2 {g : Nat → Nat} : sumN (fun n => g (rpF 2 n)) 64 = 4 ^ (3 - bcN 2) * sumN (fun n => if rpF 2 n = n then g n else 0) 64 := by
  have t0 : Nat.testBit 2 0 = false := by decide
  have t1 : Nat.testBit 2 1 = true := by decide
  have t2 : Nat.testBit 2 2 = false := by decide
  simp [sumN, rpF, bcN, t0, t1, t2]
  try omega
theorem sum_z3 {g : Nat → Nat} : sumN (fun n => g (rpF 3 n)) 64 = 4 ^ (3 - bcN 3) * sumN (fun n => if rpF 3 n = n then g n else 0) 64 := by
  have t0 : Nat.testBit 3 0 = true := by decide
  have t1 : Nat.testBit 3 1 = true := by decide
  have t2 : Nat.testBit 3 2 = false := by decide
  simp [sumN, rpF, bcN, t0, t1, t2]
  try omega
theorem sum_z4 {g : Nat → Nat} : sumN (fun n => g (rpF 4 n)) 64 = 4 ^ (3 - bcN 4) * sumN (fun n => if rpF 4 n = n then g n else 0) 64 := by
  have t0 : Nat.testBit 4 0 = false := by decide
  have t1 : Nat.testBit 4 1 = false := by decide
  have t2 : Nat.testBit 4 2 = true := by decide
  simp [sumN, rpF, bcN, t0, t1, t2]
  try omega
theorem sum_z5 {g : Nat → Nat} : sumN (fun n => g (rpF 5 n)) 64 = 4 ^ (3 - bcN 5) * sumN (fun n => if rpF 5 n = n then g n else 0) 64 := by
  have t0 : Nat.testBit 5 0 = true := by decide
  have t1 : Nat.testBit 5 1 = false := by decide
  have t2 : Nat.testBit 5 2 = true := by decide
  simp [sumN, rpF, bcN, t0, t1, t2]
  try omega
theorem sum_z6 {g : Nat → Nat} : sumN (fun n => g (rpF 6 n)) 64 = 4 ^ (3 - bcN 6) * sumN (fun n => if rpF 6 n = n then g n else 0) 64 := by
  have t0 : Nat.testBit 6 0 = false := by decide
  have t1 : Nat.testBit 6 1 = true := by decide
  have t2 : Nat.testBit 6 2 = true := by decide
  simp [sumN, rpF, bcN, t0, t1, t2]
  try omega
theorem sum_z7 {g : Nat → Nat} : sumN (fun n => g (rpF 7 n)) 64 = 4 ^ (3 - bcN 7) * sumN (fun n => if rpF 7 n = n then g n else 0) 64 := by
  have t0 : Nat.testBit 7 0 = true := by decide
  have t1 : Nat.testBit 7 1 = true := by decide
  have t2 : Nat.testBit 7 2 = true := by decide
  simp [sumN, rpF, bcN, t0, t1, t2]
theorem sum_z {g : Nat → Nat} : ∀ z, z < 8 → (∀ n, n < 64 → g n = g (rpF z n)) → sumN g 64 = 4 ^ (3 - bcN z) * sumN (fun n => if rpF z n = n then g n else 0) 64 := by
  intro z hz h
  rw [sumN_c 64 h]
  match z, hz with
  | 0, _ => exact sum_z0
  | 1, _ => exact sum_z1
  | 2, _ => exact sum_z2
  | 3, _ => exact sum_z3
  | 4, _ => exact sum_z4
  | 5, _ => exact sum_z5
  | 6, _ => exact sum_z6
  | 7, _ => exact sum_z7
theorem pop_cy {x : Int64} {z : Nat} (hz : z < 8) (hx : CY x z) : popN (UX x) = 4 ^ (3 - bcN z) * cnR x z 64 := by
  rw [yB_s, cnR_s hz hx 64 (Nat.le_refl _)]
  apply sum_z z hz
  intro n hn
  unfold yB
  rw [hx n (rpF z n) hn (Nat.lt_of_le_of_lt (rpF_le z hz n hn) hn) (rpF_ag z hz n hn)]
theorem bc3 : ∀ z, z < 8 → bcN z ≤ 3 := by decide +kernel
theorem rw_sh : ∀ b, b ≤ 3 → (nI 2 * (nI 3 - nI b)) &&& 31 = nI (2 * (3 - b)) &&& 31 := by decide +kernel
theorem rows_eq {x : Int64} {z : Nat} (hz : z < 8) (hx : CY x z) : rwC x z = nI (cnR x z 64) := by
  unfold rwC
  have hb := bc3 z hz
  have hc := cnR_le x z 64
  rw [bcL_pop, pop_cy hz hx, rw_sh _ hb]
  have hp : 4 ^ (3 - bcN z) * cnR x z 64 < 2 ^ 31 := by
    have : 4 ^ (3 - bcN z) ≤ 4 ^ 3 := Nat.pow_le_pow_right (by decide) (by omega)
    have h2 := Nat.mul_le_mul this hc
    omega
  rw [pk_shrN hp (nI (2 * (3 - bcN z)) &&& 31) (2 * (3 - bcN z)) (sh32 _ (by omega)), show (4 : Nat) = 2 ^ 2 from rfl, ← Nat.pow_mul, Nat.mul_div_cancel_left _ (Nat.pow_pos (by decide))]
