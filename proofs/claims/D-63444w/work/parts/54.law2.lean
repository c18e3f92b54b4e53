/-! the pure law, second part: the component's sets are the twin's -/
section SE
variable {l r : Nat → Int64} {tm : Nat → Nat} {lw e0 b : Nat}
theorem tb_siT {kF kS kL kE : Nat → Nat} {ho : Nat → Int64} {f i : Nat} (hl : ∀ x, x ≤ i → l x = ho (24 * kF f + x)) (hr : ∀ x, x ≤ i → r x = ho (24 * kS f + x)) (h1 : lw = kL f) (h2 : e0 = kE f) : ∀ J, J ≤ i + 1 → tb (siT l r tm lw e0 i J) b = (snV kF kS kL kE tm ho f i b J && alB l b J (i + 1 - J)) := by
  intro J
  induction J with
  | zero => intro _; rw [siT, snV, tb_0]; rfl
  | succ J ih =>
    intro hJ
    rw [siT, tb_or, ih (by omega)]
    have e1 : i + 1 - J = (i + 1 - (J + 1)) + 1 := by omega
    have e2 : i - J = i + 1 - (J + 1) := by omega
    rw [e1, alB_f, snV, ← h1, ← h2, ← hl J (by omega), ← hr J (by omega)]
    by_cases c : liB lw e0 (tm i - tm J) = true
    · rw [if_pos c, tb_hvD, e2, c]
      cases tb (r J) b <;> cases tb (l J) b <;> cases snV kF kS kL kE tm ho f i b J <;> cases alB l b (J + 1) (i + 1 - (J + 1)) <;> rfl
    · rw [if_neg c, tb_0, Bool.not_eq_true] at *
      rw [c]
      cases tb (r J) b <;> cases tb (l J) b <;> cases snV kF kS kL kE tm ho f i b J <;> cases alB l b (J + 1) (i + 1 - (J + 1)) <;> rfl
theorem tb_utD {kF kS kL kE : Nat → Nat} {ho : Nat → Int64} {f i : Nat} (hb : b < 64) (h1 : lw = kL f) (h2 : e0 = kE f) : ∀ R j, i ≤ j → tb (utD (fun x => ho (24 * kF f + x)) (fun x => ho (24 * kS f + x)) tm lw e0 i (j - i + R)) b = ((alB (fun x => ho (24 * kF f + x)) b i (j - i) && unV kF kS kL kE tm ho f i b R j) || tb (utD (fun x => ho (24 * kF f + x)) (fun x => ho (24 * kS f + x)) tm lw e0 i (j - i)) b) := by
  intro R
  induction R with
  | zero => intro j hj; rw [unV, Bool.and_false, Bool.false_or, Nat.add_zero]
  | succ R ih =>
    intro j hj
    have h := ih (j + 1) (by omega)
    rw [show j + 1 - i + R = j - i + (R + 1) by omega, show j + 1 - i = (j - i) + 1 by omega] at h
    rw [h, alB, utD, unV, ← h1, ← h2, show i + (j - i) = j by omega]
    by_cases c : liB lw e0 (tm j - tm i) = true
    · rw [if_pos c, tb_or, tb_and, tb_alD _ hb, c]
      cases tb (ho (24 * kS f + j)) b <;> cases tb (ho (24 * kF f + j)) b <;> cases unV kF kS kL kE tm ho f i b R (j + 1) <;> cases alB (fun x => ho (24 * kF f + x)) b i (j - i) <;> cases tb (utD (fun x => ho (24 * kF f + x)) (fun x => ho (24 * kS f + x)) tm lw e0 i (j - i)) b <;> rfl
    · rw [if_neg c, Bool.not_eq_true] at *
      rw [c]
      cases tb (ho (24 * kS f + j)) b <;> cases tb (ho (24 * kF f + j)) b <;> cases unV kF kS kL kE tm ho f i b R (j + 1) <;> cases alB (fun x => ho (24 * kF f + x)) b i (j - i) <;> cases tb (utD (fun x => ho (24 * kF f + x)) (fun x => ho (24 * kS f + x)) tm lw e0 i (j - i)) b <;> rfl
theorem utD_x {i d : Nat} : ∀ D, d ≤ D → (∀ x, d ≤ x → x < D → liB lw e0 (tm (i + x) - tm i) = false) → utD l r tm lw e0 i D = utD l r tm lw e0 i d := by
  intro D
  induction D with
  | zero => intro h _; rw [show d = 0 by omega]
  | succ D ih =>
    intro h hx
    by_cases e : d = D + 1
    · rw [e]
    · rw [utD, if_neg (by rw [hx D (by omega) (by omega)]; decide)]
      exact ih (by omega) (fun x a c => hx x a (by omega))
end SE
theorem su64 : ∀ n, n < 64 → (((nI n).toInt64.toUInt64 &&& Int64.toUInt64 63).toBitVec % 64).toNat = n := by decide +kernel
theorem tb_ushr (s : Nat) (hs : s < 64) (x : Int64) (n : Nat) : tb (x.toUInt64 >>> ((nI s).toInt64.toUInt64 &&& Int64.toUInt64 63)).toInt64 n = tb x (s + n) := by
  show (x.toUInt64 >>> ((nI s).toInt64.toUInt64 &&& Int64.toUInt64 63)).toBitVec.getLsbD n = x.toUInt64.toBitVec.getLsbD (s + n)
  rw [UInt64.toBitVec_shiftRight]
  show (x.toUInt64.toBitVec >>> (((nI s).toInt64.toUInt64 &&& Int64.toUInt64 63).toBitVec % 64).toNat).getLsbD n = _
  rw [su64 s hs, BitVec.getLsbD_ushiftRight]
theorem sl64 : ∀ n, n < 64 → (((nI n).toInt64 &&& 63).toBitVec.smod 64).toNat = n := by decide +kernel
theorem tb_shl (s : Nat) (hs : s < 64) (x : Int64) {n : Nat} (hn : n < 64) : tb (x <<< ((nI s).toInt64 &&& 63)) n = (decide (s ≤ n) && tb x (n - s)) := by
  unfold tb
  rw [Int64.toBitVec_shiftLeft]
  show (x.toBitVec <<< (((nI s).toInt64 &&& 63).toBitVec.smod 64).toNat).getLsbD n = _
  rw [sl64 s hs, BitVec.getLsbD_shiftLeft]
  rcases Nat.lt_or_ge n s with h | h
  · simp [h, Nat.not_le.mpr h]
  · simp [hn, h, Nat.not_lt.mpr h]
theorem tb_big (x : Int64) {n : Nat} (h : 64 ≤ n) : tb x n = false := BitVec.getLsbD_of_ge _ _ h
theorem anF_1 : ∀ w, w ≤ 2 → anF w = nI (4 ^ w) := by decide +kernel
theorem anF_2 : ∀ w, w ≤ 2 → nI 2 * anF w = nI (2 * 4 ^ w) := by decide +kernel
theorem anF_3 : ∀ w, w ≤ 2 → nI 3 * anF w = nI (3 * 4 ^ w) := by decide +kernel
theorem tb_zeF : ∀ w, w ≤ 2 → ∀ n, n < 64 → tb (zeF w) n = decide (n / 4 ^ w % 4 = 0) := by decide +kernel
theorem pw64 : ∀ w, w ≤ 2 → 4 ^ w < 64 ∧ 2 * 4 ^ w < 64 ∧ 3 * 4 ^ w < 64 := by decide +kernel
theorem tb_anS {w : Nat} (hw : w ≤ 2) (x : Int64) {n : Nat} (hn : n < 64) : tb (anS w x) n = ((tb x n || tb x (4 ^ w + n) || tb x (2 * 4 ^ w + n) || tb x (3 * 4 ^ w + n)) && decide (n / 4 ^ w % 4 = 0)) := by
  obtain ⟨p1, p2, p3⟩ := pw64 w hw
  unfold anS
  rw [tb_and, tb_or, tb_or, tb_or, anF_2 w hw, anF_3 w hw, anF_1 w hw, tb_ushr _ p1, tb_ushr _ p2, tb_ushr _ p3, tb_zeF w hw n hn]
theorem rp_ia : ∀ w, w ≤ 2 → ∀ n, n < 64 → ∀ v, v < 4 → n / 4 ^ w % 4 = v → v * 4 ^ w ≤ n ∧ (n - v * 4 ^ w) / 4 ^ w % 4 = 0 := by decide +kernel
theorem rp_ib : ∀ w, w ≤ 2 → ∀ n, n < 64 → ∀ v, v < 4 → n / 4 ^ w % 4 = v → rpN w 0 n = n - v * 4 ^ w ∧ rpN w 1 n = 4 ^ w + (n - v * 4 ^ w) := by decide +kernel
theorem rp_ic : ∀ w, w ≤ 2 → ∀ n, n < 64 → ∀ v, v < 4 → n / 4 ^ w % 4 = v → rpN w 2 n = 2 * 4 ^ w + (n - v * 4 ^ w) ∧ rpN w 3 n = 3 * 4 ^ w + (n - v * 4 ^ w) := by decide +kernel
theorem rp_id : ∀ w, w ≤ 2 → ∀ n, n < 64 → ∀ v, v < 4 → v * 4 ^ w ≤ n → (n - v * 4 ^ w) / 4 ^ w % 4 = 0 → n / 4 ^ w % 4 = v := by decide +kernel
theorem tb_anV {w : Nat} (hw : w ≤ 2) (x : Int64) {n : Nat} (hn : n < 64) : tb (anV w x) n = (tb x (rpN w 0 n) || tb x (rpN w 1 n) || tb x (rpN w 2 n) || tb x (rpN w 3 n)) := by
  obtain ⟨p1, p2, p3⟩ := pw64 w hw
  have key : ∀ v, v < 4 → (decide (v * 4 ^ w ≤ n) && tb (anS w x) (n - v * 4 ^ w)) = (decide (n / 4 ^ w % 4 = v) && (tb x (rpN w 0 n) || tb x (rpN w 1 n) || tb x (rpN w 2 n) || tb x (rpN w 3 n))) := by
    intro v hv
    by_cases c : n / 4 ^ w % 4 = v
    · obtain ⟨a1, a2⟩ := rp_ia w hw n hn v hv c
      obtain ⟨a3, a4⟩ := rp_ib w hw n hn v hv c
      obtain ⟨a5, a6⟩ := rp_ic w hw n hn v hv c
      rw [decide_eq_true a1, decide_eq_true c, tb_anS hw x (by omega), decide_eq_true a2, a3, a4, a5, a6, Bool.and_true]
    · rw [decide_eq_false c, Bool.false_and]
      by_cases d : v * 4 ^ w ≤ n
      · rw [tb_anS hw x (by omega), decide_eq_false (fun h => c (rp_id w hw n hn v hv d h)), Bool.and_false, Bool.and_false]
      · rw [decide_eq_false d, Bool.false_and]
  have k0 := key 0 (by decide)
  have k1 := key 1 (by decide)
  have k2 := key 2 (by decide)
  have k3 := key 3 (by decide)
  rw [Nat.zero_mul, Nat.sub_zero, decide_eq_true (Nat.zero_le n), Bool.true_and] at k0
  rw [Nat.one_mul] at k1
  unfold anV
  rw [tb_or, tb_or, tb_or, anF_2 w hw, anF_3 w hw, anF_1 w hw, tb_shl _ p1 _ hn, tb_shl _ p2 _ hn, tb_shl _ p3 _ hn, k0, k1, k2, k3]
  have h4 : n / 4 ^ w % 4 < 4 := Nat.mod_lt _ (by decide)
  generalize n / 4 ^ w % 4 = v at h4 ⊢
  generalize (tb x (rpN w 0 n) || tb x (rpN w 1 n) || tb x (rpN w 2 n) || tb x (rpN w 3 n)) = y
  match v, h4 with
  | 0, _ => cases y <;> rfl
  | 1, _ => cases y <;> rfl
  | 2, _ => cases y <;> rfl
  | 3, _ => cases y <;> rfl
