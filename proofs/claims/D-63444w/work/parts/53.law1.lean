/-! the pure law, first part: how far, and the bits of the sets -/
theorem ovR_iff (tm : Nat → Nat) (b : Nat) : ∀ k, ovR tm b k = true ↔ ∃ t, t < k ∧ b ≤ tm t := by
  intro k
  induction k with
  | zero => exact ⟨fun h => Bool.noConfusion h, fun ⟨t, h, _⟩ => absurd h (Nat.not_lt_zero t)⟩
  | succ k ih =>
    rw [ovR, Bool.or_eq_true, ih, decide_eq_true_eq]
    constructor
    · rintro (⟨t, h1, h2⟩ | h)
      · exact ⟨t, by omega, h2⟩
      · exact ⟨k, by omega, h⟩
    · rintro ⟨t, h1, h2⟩
      by_cases e : t = k
      · rw [e] at h2; exact Or.inr h2
      · exact Or.inl ⟨t, by omega, h2⟩
theorem dcR_eq {tm : Nat → Nat} {np e m r : Nat} (h1 : ∀ i, i < r → ovR tm (tm i + e) (min (m + 1) np) = true) : ∀ N, (∀ i, r ≤ i → i < N → ¬ ovR tm (tm i + e) (min (m + 1) np) = true) → dcR tm np e m N = min N r := by
  intro N
  induction N with
  | zero => intro _; simp [dcR]
  | succ N ih =>
    intro h2
    have h3 := ih (fun i a b => h2 i a (by omega))
    rw [dcR]
    by_cases c : N < r
    · rw [if_pos (h1 N c), h3]; omega
    · rw [if_neg (h2 N (by omega) (by omega)), h3]; omega
theorem dcR_RV {tm : Nat → Nat} {np e m r : Nat} (hT : TL np tm) (he : 1 ≤ e) (h1 : r ≤ min m (np - 1)) (h2 : ∀ j, j < r → tm j + e ≤ tm (min m (np - 1))) (h3 : r = min m (np - 1) ∨ tm (min m (np - 1)) < tm r + e) : r = dcR tm np e m np := by
  rcases Nat.eq_zero_or_pos np with h0 | h0
  · subst h0; simp [dcR]; omega
  rw [dcR_eq (r := r) (fun i hi => (ovR_iff _ _ _).mpr ⟨min m (np - 1), by omega, h2 i hi⟩) np ?_]
  · omega
  · intro i a b hov
    obtain ⟨t, t1, t2⟩ := (ovR_iff _ _ _).mp hov
    have t3 : tm t ≤ tm (min m (np - 1)) := hT.2.2 _ _ (by omega) (by omega)
    have t4 : tm r ≤ tm i := hT.2.2 _ _ a b
    rcases h3 with h3 | h3
    · rw [← h3] at t3; omega
    · omega
/-- the further things that the law keeps of the formulas' table -/
def WG (n : Nat) (q : Nat → Nat → Nat) : Prop := ∀ k, k < n → (q 0 k = 3 ∨ q 0 k = 6 ∨ q 0 k = 7 → q 3 k = q 2 k) ∧ (q 0 k = 9 → 1 ≤ q 5 k)
theorem RP_of {n np : Nat} {tm : Nat → Nat} {q : Nat → Nat → Nat} (hW : WF n (q 0) (q 1) (q 2) (q 3) (q 4) (q 5)) (hG : WG n q) (hT : TL np tm) (hR : ∀ k, k < n → RV np tm q k) : RP n (q 0) (q 2) (q 3) (q 5) tm np (q 8) := by
  intro k hk
  obtain ⟨r0, r1, r2, r3, r4, r5⟩ := hR k hk
  obtain ⟨g1, g2⟩ := hG k hk
  have w1 := (hW.2 k hk).1
  refine ⟨?_, r0⟩
  unfold reS reM
  by_cases h7 : q 0 k = 7
  · rw [if_pos h7, if_neg (by omega), g1 (by omega), Nat.min_self]; exact r4 h7
  rw [if_neg h7]
  by_cases h9 : q 0 k = 9
  · rw [if_pos h9, if_neg (by omega)]
    obtain ⟨b1, b2, b3, b4⟩ := r5 h9
    rw [b1] at b2 b3 b4
    exact dcR_RV hT (g2 h9) b2 b3 b4
  rw [if_neg h9]
  by_cases h2 : q 0 k ≤ 2
  · rw [if_pos h2]; exact r1 h2
  rw [if_neg h2]
  by_cases h3 : q 0 k = 3 ∨ q 0 k = 6
  · rw [g1 (by omega), Nat.min_self]; exact r2 h3
  · exact r3 (by omega)
theorem vl4' {t n : Nat} (ht : t < 8) : vlN t n < 4 := vl4 ht
theorem tb_atS {pv a b : Nat} (ha : a < 8) (ha3 : a ≠ 3) (hb : b < 8) (hb3 : b ≠ 3) {n : Nat} (hn : n < 64) : ∀ K, K ≤ 16 → tb (atS pv a b K) n = (decide (4 * vlN a n + vlN b n < K) && decide (pv / 2 ^ (4 * vlN a n + vlN b n) % 2 ≠ 0)) := by
  have v1 := vl4 (n := n) ha
  have v2 := vl4 (n := n) hb
  intro K
  induction K with
  | zero => intro _; rw [atS, tb_0, decide_eq_false (by omega)]; rfl
  | succ K ih =>
    intro hK
    rw [atS]
    by_cases e : 4 * vlN a n + vlN b n = K
    · rw [e] at ih ⊢
      rw [decide_eq_false (Nat.lt_irrefl K), Bool.false_and] at ih
      rw [decide_eq_true (Nat.lt_succ_self K), Bool.true_and]
      by_cases h : pv / 2 ^ K % 2 ≠ 0
      · rw [if_pos h, tb_or, tb_and, tb_whL a ha ha3 _ (by omega) n hn, tb_whL b hb hb3 _ (by omega) n hn, decide_eq_true (show vlN a n = K / 4 by omega), decide_eq_true (show vlN b n = K % 4 by omega), decide_eq_true h]; simp
      · rw [if_neg h, ih (by omega), decide_eq_false h]
    · have hd : decide (4 * vlN a n + vlN b n < K + 1) = decide (4 * vlN a n + vlN b n < K) := by
        by_cases h : 4 * vlN a n + vlN b n < K
        · rw [decide_eq_true h, decide_eq_true (by omega)]
        · rw [decide_eq_false h, decide_eq_false (by omega)]
      rw [hd, ← ih (by omega)]
      by_cases h : pv / 2 ^ K % 2 ≠ 0
      · rw [if_pos h, tb_or, tb_and, tb_whL a ha ha3 _ (by omega) n hn, tb_whL b hb hb3 _ (by omega) n hn]
        have : (decide (vlN a n = K / 4) && decide (vlN b n = K % 4)) = false := by
          by_cases h1 : vlN a n = K / 4
          · rw [decide_eq_false (show ¬ vlN b n = K % 4 by omega), Bool.and_false]
          · rw [decide_eq_false h1, Bool.false_and]
        rw [this, Bool.or_false]
      · rw [if_neg h]
theorem tb_cpS {ls0 : Bool} {a b : Nat} (ha : a < 8) (ha3 : a ≠ 3) (hb : b < 8) (hb3 : b ≠ 3) {n : Nat} (hn : n < 64) : ∀ K, K ≤ 16 → tb (cpS ls0 a b K) n = (decide (4 * vlN a n + vlN b n < K) && cpB ls0 (4 * vlN a n + vlN b n)) := by
  have v1 := vl4 (n := n) ha
  have v2 := vl4 (n := n) hb
  intro K
  induction K with
  | zero => intro _; rw [cpS, tb_0, decide_eq_false (by omega)]; rfl
  | succ K ih =>
    intro hK
    rw [cpS]
    by_cases e : 4 * vlN a n + vlN b n = K
    · rw [e] at ih ⊢
      rw [decide_eq_false (Nat.lt_irrefl K), Bool.false_and] at ih
      rw [decide_eq_true (Nat.lt_succ_self K), Bool.true_and]
      by_cases h : cpB ls0 K = true
      · rw [if_pos h, tb_or, tb_and, tb_whL a ha ha3 _ (by omega) n hn, tb_whL b hb hb3 _ (by omega) n hn, decide_eq_true (show vlN a n = K / 4 by omega), decide_eq_true (show vlN b n = K % 4 by omega), h]; simp
      · rw [if_neg h, ih (by omega), Bool.not_eq_true] at *
        rw [h]
    · have hd : decide (4 * vlN a n + vlN b n < K + 1) = decide (4 * vlN a n + vlN b n < K) := by
        by_cases h : 4 * vlN a n + vlN b n < K
        · rw [decide_eq_true h, decide_eq_true (by omega)]
        · rw [decide_eq_false h, decide_eq_false (by omega)]
      rw [hd, ← ih (by omega)]
      by_cases h : cpB ls0 K = true
      · rw [if_pos h, tb_or, tb_and, tb_whL a ha ha3 _ (by omega) n hn, tb_whL b hb hb3 _ (by omega) n hn]
        have : (decide (vlN a n = K / 4) && decide (vlN b n = K % 4)) = false := by
          by_cases h1 : vlN a n = K / 4
          · rw [decide_eq_false (show ¬ vlN b n = K % 4 by omega), Bool.and_false]
          · rw [decide_eq_false h1, Bool.false_and]
        rw [this, Bool.or_false]
      · rw [if_neg h]
theorem tb_not (x : Int64) {n : Nat} (hn : n < 64) : tb (x ^^^ (-1)) n = !tb x n := by
  have h1 : tb (x ^^^ (-1)) n = (tb x n ^^ tb (-1) n) := by unfold tb; rw [Int64.toBitVec_xor, BitVec.getLsbD_xor]
  rw [h1, tb_m1 n hn, Bool.xor_true]
/-- all of n places from j on -/
def alB (l : Nat → Int64) (b j : Nat) : Nat → Bool
  | 0 => true
  | d + 1 => alB l b j d && tb (l (j + d)) b
theorem alB_f (l : Nat → Int64) (b j : Nat) : ∀ d, alB l b j (d + 1) = (tb (l j) b && alB l b (j + 1) d) := by
  intro d
  induction d with
  | zero => rw [alB, alB, alB, Nat.add_zero, Bool.true_and, Bool.and_true]
  | succ d ih => rw [alB, ih, alB, Bool.and_assoc, show j + (d + 1) = j + 1 + d by omega]
theorem tb_hvD (l r : Nat → Int64) (b j : Nat) : ∀ d, tb (hvD l r j d) b = (tb (r j) b && alB l b (j + 1) d) := by
  intro d
  induction d with
  | zero => rw [hvD, alB, Bool.and_true]
  | succ d ih => rw [hvD, tb_and, ih, alB, Bool.and_assoc, show j + d + 1 = j + 1 + d by omega]
theorem tb_alD (l : Nat → Int64) {b : Nat} (hb : b < 64) (i : Nat) : ∀ d, tb (alD l i d) b = alB l b i d := by
  intro d
  induction d with
  | zero => rw [alD, alB, tb_m1 b hb]
  | succ d ih => rw [alD, tb_and, ih, alB]
