/-! what a formula means, by the twin's own loops -/
def WF (nf : Nat) (kK kW kF kS kL kE : Nat → Nat) : Prop := nf ≤ 12 ∧ ∀ k, k < nf → kK k ≤ 9 ∧ kW k ≤ 2 ∧ kL k ≤ 1000000 ∧ kE k ≤ 1000001 ∧ (kK k ≤ 2 → kF k < 8 ∧ kF k ≠ 3 ∧ kS k < 8 ∧ kS k ≠ 3) ∧ (3 ≤ kK k → kF k < k ∧ kS k < k)
def TL (np : Nat) (tm : Nat → Nat) : Prop := np ≤ 24 ∧ (∀ a, a < np → tm a ≤ 1000000) ∧ ∀ a b, a ≤ b → b < np → tm a ≤ tm b
def PB (pr : Nat → Nat) : Prop := ∀ j, j < 72 → pr j < 65536
def rpN (w v n : Nat) : Nat := n - (n / 4 ^ w % 4) * 4 ^ w + v * 4 ^ w
def snV (kF kS kL kE tm : Nat → Nat) (ho : Nat → Int64) (f i n : Nat) : Nat → Bool
  | 0 => false
  | j + 1 => if (liB (kL f) (kE f) (tm i - tm j) && tb (ho (24 * kS f + j)) n) = true then true else if tb (ho (24 * kF f + j)) n = true then snV kF kS kL kE tm ho f i n j else false
def unV (kF kS kL kE tm : Nat → Nat) (ho : Nat → Int64) (f i n : Nat) : Nat → Nat → Bool
  | 0, _ => false
  | r + 1, j => if (liB (kL f) (kE f) (tm j - tm i) && tb (ho (24 * kS f + j)) n) = true then true else if tb (ho (24 * kF f + j)) n = true then unV kF kS kL kE tm ho f i n r (j + 1) else false
def exV (kW kF : Nat → Nat) (ho : Nat → Int64) (f i n : Nat) : Nat → Bool
  | 0 => false
  | v + 1 => exV kW kF ho f i n v || tb (ho (24 * kF f + i)) (rpN (kW f) v n)
theorem snV_t {kF kS kL kE tm : Nat → Nat} {ho : Nat → Int64} {f i n j : Nat} (h1 : liB (kL f) (kE f) (tm i - tm j) = true) (h2 : tb (ho (24 * kS f + j)) n = true) : snV kF kS kL kE tm ho f i n (j + 1) = true := by
  rw [snV, if_pos (by rw [h1, h2]; rfl)]
theorem snV_f {kF kS kL kE tm : Nat → Nat} {ho : Nat → Int64} {f i n j : Nat} (h1 : (liB (kL f) (kE f) (tm i - tm j) && tb (ho (24 * kS f + j)) n) = false) (h2 : tb (ho (24 * kF f + j)) n = false) : snV kF kS kL kE tm ho f i n (j + 1) = false := by
  rw [snV, if_neg (by rw [h1]; decide), if_neg (by rw [h2]; decide)]
theorem snV_s {kF kS kL kE tm : Nat → Nat} {ho : Nat → Int64} {f i n j : Nat} (h1 : (liB (kL f) (kE f) (tm i - tm j) && tb (ho (24 * kS f + j)) n) = false) (h2 : tb (ho (24 * kF f + j)) n = true) : snV kF kS kL kE tm ho f i n (j + 1) = snV kF kS kL kE tm ho f i n j := by
  rw [snV, if_neg (by rw [h1]; decide), if_pos h2]
theorem unV_t {kF kS kL kE tm : Nat → Nat} {ho : Nat → Int64} {f i n r j : Nat} (h1 : liB (kL f) (kE f) (tm j - tm i) = true) (h2 : tb (ho (24 * kS f + j)) n = true) : unV kF kS kL kE tm ho f i n (r + 1) j = true := by
  rw [unV, if_pos (by rw [h1, h2]; rfl)]
theorem unV_f {kF kS kL kE tm : Nat → Nat} {ho : Nat → Int64} {f i n r j : Nat} (h1 : (liB (kL f) (kE f) (tm j - tm i) && tb (ho (24 * kS f + j)) n) = false) (h2 : tb (ho (24 * kF f + j)) n = false) : unV kF kS kL kE tm ho f i n (r + 1) j = false := by
  rw [unV, if_neg (by rw [h1]; decide), if_neg (by rw [h2]; decide)]
theorem unV_s {kF kS kL kE tm : Nat → Nat} {ho : Nat → Int64} {f i n r j : Nat} (h1 : (liB (kL f) (kE f) (tm j - tm i) && tb (ho (24 * kS f + j)) n) = false) (h2 : tb (ho (24 * kF f + j)) n = true) : unV kF kS kL kE tm ho f i n (r + 1) j = unV kF kS kL kE tm ho f i n r (j + 1) := by
  rw [unV, if_neg (by rw [h1]; decide), if_pos h2]
theorem and_f1 {a b : Bool} (h : a = false) : (a && b) = false := by rw [h]; rfl
theorem and_f2 {a b : Bool} (h : b = false) : (a && b) = false := by rw [h]; cases a <;> rfl
theorem exV_t1 {kW kF : Nat → Nat} {ho : Nat → Int64} {f i n v : Nat} (h : exV kW kF ho f i n v = true) : true = exV kW kF ho f i n (v + 1) := by rw [exV, h]; rfl
theorem exV_t2 {kW kF : Nat → Nat} {ho : Nat → Int64} {f i n v : Nat} (h : tb (ho (24 * kF f + i)) (rpN (kW f) v n) = true) : true = exV kW kF ho f i n (v + 1) := by rw [exV, h]; cases exV kW kF ho f i n v <;> rfl
theorem exV_f {kW kF : Nat → Nat} {ho : Nat → Int64} {f i n v : Nat} (h1 : exV kW kF ho f i n v = false) (h : tb (ho (24 * kF f + i)) (rpN (kW f) v n) = false) : false = exV kW kF ho f i n (v + 1) := by rw [exV, h, h1]; rfl
theorem decE (a : Nat) : nI a + Int32.ofInt (-1) = nI a - 1 := by
  cases a with
  | zero => decide
  | succ k => rw [nI_pred]; exact pk_m1 k
theorem rp_lem : ∀ w, w ≤ 2 → ∀ v, v < 4 → ∀ n, n < 64 → (nI n &&& ((nI 3 <<< (nI (2 * w) &&& 31)) ^^^ -1)) ||| (nI v <<< (nI (2 * w) &&& 31)) = nI (rpN w v n) := by decide +kernel
theorem rp_lt : ∀ w, w ≤ 2 → ∀ v, v < 4 → ∀ n, n < 64 → rpN w v n < 64 := by decide +kernel
theorem vl4 {t n : Nat} (ht : t < 8) : vlN t n < 4 := by
  unfold vlN; split
  · exact Nat.mod_lt _ (by decide)
  · omega
theorem sh32 : ∀ n, n < 32 → ((nI n &&& 31).toBitVec.smod 32).toNat = n := by decide +kernel
theorem pb_lem {q s : Nat} (hq : q < 65536) (hs : s < 32) : (nI q >>> (nI s &&& 31)) &&& nI 1 = nI (q / 2 ^ s % 2) := by
  rw [pk_shrN (by omega) (nI s &&& 31) s (sh32 s hs)]
  have h : q / 2 ^ s ≤ q := Nat.div_le_self _ _
  exact pk_andN (n := q / 2 ^ s) (by omega) (m := nI 1) 1 (by decide)
/-- one assignment n at place i of formula f, out of the sets ho of the formulas before it -/
def satB (kK kW kF kS kL kE tm pr : Nat → Nat) (np : Nat) (ho : Nat → Int64) (f i n : Nat) : Bool :=
  match kK f with
  | 0 => decide (pr (24 * kW f + i) / 2 ^ (vlN (kF f) n + 4 * vlN (kS f) n) % 2 = 1)
  | 1 => decide (vlN (kF f) n = vlN (kS f) n)
  | 2 => decide (vlN (kF f) n < vlN (kS f) n)
  | 3 => !tb (ho (24 * kF f + i)) n
  | 4 => tb (ho (24 * kF f + i)) n && tb (ho (24 * kS f + i)) n
  | 5 => tb (ho (24 * kF f + i)) n || tb (ho (24 * kS f + i)) n
  | 6 => exV kW kF ho f i n 4
  | 7 => decide (0 < i) && (liB (kL f) (kE f) (tm i - tm (i - 1)) && tb (ho (24 * kF f + (i - 1))) n)
  | 8 => snV kF kS kL kE tm ho f i n (i + 1)
  | _ => unV kF kS kL kE tm ho f i n (np - i) i
