/-! the pure law, third part: what is settled is the same -/
/-- pairs, transposed -/
def TR (a b : Nat) : Prop := ∀ x y, x < 4 → y < 4 → a / 2 ^ (4 * x + y) % 2 = b / 2 ^ (x + 4 * y) % 2
theorem li_no {lw e d : Nat} (h1 : 1 ≤ e) (h2 : e ≤ d) : liB lw e d = false := decide_eq_false (fun h => by omega)
theorem EQ_S {n np : Nat} {tm pr : Nat → Nat} {ph q : Nat → Nat → Nat} {ss : Nat → Nat → Nat → Int64} {ho : Nat → Int64} (hW : WF n (q 0) (q 1) (q 2) (q 3) (q 4) (q 5)) (hG : WG n q) (hT : TL np tm) (hF : FP n (q 0) (q 1) (q 2) (q 3) (q 4) (q 5) tm pr np ho) (hC : ∀ k, k < n → CV np tm ph q ss k ∧ RV np tm q k) (hP : ∀ r i, r < 3 → i < np → TR (ph r i) (pr (24 * r + i))) : ∀ k, k < n → ∀ i, i < q 8 k → ss 0 k i = ho (24 * k + i) := by
  intro k
  induction k using Nat.strongRecOn with
  | _ k ih =>
  intro hk i hi
  obtain ⟨w1, w2, w3, w4, w5, w6⟩ := hW.2 k hk
  obtain ⟨⟨c0, c1, c2, c3, c4, c5, c6, c7⟩, ⟨r0, r1, r2, r3, r4, r5⟩⟩ := hC k hk
  obtain ⟨g1, g2⟩ := hG k hk
  have hnp : i < np := by omega
  have ihl : 3 ≤ q 0 k → ∀ x, x < q 8 (q 2 k) → ss 0 (q 2 k) x = ho (24 * q 2 k + x) := fun h x hx => ih _ (w6 h).1 (by have := (w6 h).1; omega) x hx
  have ihr : 3 ≤ q 0 k → ∀ x, x < q 8 (q 3 k) → ss 0 (q 3 k) x = ho (24 * q 3 k + x) := fun h x hx => ih _ (w6 h).2 (by have := (w6 h).2; omega) x hx
  rw [hF k hk i hnp]
  apply tb_ext
  intro b hb
  rw [tb_setR64 _ hb]
  rcases (show q 0 k = 0 ∨ q 0 k = 1 ∨ q 0 k = 2 ∨ q 0 k = 3 ∨ q 0 k = 4 ∨ q 0 k = 5 ∨ q 0 k = 6 ∨ q 0 k = 7 ∨ q 0 k = 8 ∨ q 0 k = 9 by omega) with h | h | h | h | h | h | h | h | h | h
  · obtain ⟨a1, a2, a3, a4⟩ := w5 (by omega)
    have v1 := vl4 (n := b) a1
    have v2 := vl4 (n := b) a3
    rw [c0 h i hi, tb_atS a1 a2 a3 a4 hb 16 (by omega), decide_eq_true (by omega), Bool.true_and]
    unfold satB; rw [h]
    have e := hP (q 1 k) i (by omega) hnp _ _ v1 v2
    rw [e]
    show decide _ = decide _
    generalize pr (24 * q 1 k + i) / 2 ^ (vlN (q 2 k) b + 4 * vlN (q 3 k) b) = z
    by_cases hz : z % 2 = 1
    · rw [decide_eq_true hz, decide_eq_true (by omega)]
    · rw [decide_eq_false hz, decide_eq_false (by omega)]
  · obtain ⟨a1, a2, a3, a4⟩ := w5 (by omega)
    have v1 := vl4 (n := b) a1
    have v2 := vl4 (n := b) a3
    rw [c1 (Or.inl h) i hi, tb_cpS a1 a2 a3 a4 hb 16 (by omega), decide_eq_true (show 4 * vlN (q 2 k) b + vlN (q 3 k) b < 16 by omega), Bool.true_and]
    unfold satB cpB; rw [h]
    show decide _ = decide _
    rw [show (4 * vlN (q 2 k) b + vlN (q 3 k) b) / 4 = vlN (q 2 k) b by omega, show (4 * vlN (q 2 k) b + vlN (q 3 k) b) % 4 = vlN (q 3 k) b by omega]
  · obtain ⟨a1, a2, a3, a4⟩ := w5 (by omega)
    have v1 := vl4 (n := b) a1
    have v2 := vl4 (n := b) a3
    rw [c1 (Or.inr h) i hi, tb_cpS a1 a2 a3 a4 hb 16 (by omega), decide_eq_true (show 4 * vlN (q 2 k) b + vlN (q 3 k) b < 16 by omega), Bool.true_and]
    unfold satB cpB; rw [h]
    show decide _ = decide _
    rw [show (4 * vlN (q 2 k) b + vlN (q 3 k) b) / 4 = vlN (q 2 k) b by omega, show (4 * vlN (q 2 k) b + vlN (q 3 k) b) % 4 = vlN (q 3 k) b by omega]
  · have e := r2 (Or.inl h)
    rw [c2 h i hi, tb_not _ hb, ihl (by omega) i (by omega)]
    unfold satB; rw [h]; rfl
  · have e := r3 (by omega)
    rw [c3 (Or.inl h) i hi]
    unfold joF satB; rw [h, if_pos (by decide), tb_and, ihl (by omega) i (by omega), ihr (by omega) i (by omega)]; rfl
  · have e := r3 (by omega)
    rw [c3 (Or.inr h) i hi]
    unfold joF satB; rw [h, if_neg (by decide), tb_or, ihl (by omega) i (by omega), ihr (by omega) i (by omega)]; rfl
  · have e := r2 (Or.inr h)
    rw [c4 h i hi, tb_anV w2 _ hb, ihl (by omega) i (by omega)]
    unfold satB; rw [h]
    show _ = exV (q 1) (q 2) ho k i b 4
    rw [exV, exV, exV, exV, exV, Bool.false_or]
  · have e := r4 h
    rw [c5 h i hi]
    unfold pvF satB; rw [h]
    show _ = (decide (0 < i) && (liB (q 4 k) (q 5 k) (tm i - tm (i - 1)) && tb (ho (24 * q 2 k + (i - 1))) b))
    by_cases c : (decide (0 < i) && liB (q 4 k) (q 5 k) (tm i - tm (i - 1))) = true
    · rw [if_pos c, ← Bool.and_assoc, c, Bool.true_and]
      have h0 : 0 < i := by simp only [Bool.and_eq_true, decide_eq_true_eq] at c; exact c.1
      rw [ihl (by omega) (i - 1) (by omega)]
    · rw [if_neg c, ← Bool.and_assoc, Bool.not_eq_true] at *
      rw [c, Bool.false_and, tb_0]
  · have e := r3 (by omega)
    rw [(c6 h).1 i hi, tb_siT (kF := q 2) (kS := q 3) (kL := q 4) (kE := q 5) (ho := ho) (f := k) (fun x hx => ihl (by omega) x (by omega)) (fun x hx => ihr (by omega) x (by omega)) rfl rfl (i + 1) (Nat.le_refl _), Nat.sub_self, alB, Bool.and_true]
    unfold satB; rw [h]; rfl
  · obtain ⟨b1, b2, b3, b4⟩ := r5 h
    obtain ⟨m, d, e1, e2, e3, e4, e5, e6⟩ := (c7 h).1 i hi
    have he := g2 h
    have hid : i < d := by
      rcases Nat.lt_or_ge i d with h9 | h9
      · exact h9
      · have : i = d := by omega
        rw [this] at e5; omega
    have hml : q 8 (q 2 k) ≤ np := by have := (w6 (by omega)).1; exact (hC _ (by omega)).2.1
    have hmr : q 8 (q 3 k) ≤ np := by have := (w6 (by omega)).2; exact (hC _ (by omega)).2.1
    rw [e6]
    have u := tb_utD (b := b) (tm := tm) (lw := q 4 k) (e0 := q 5 k) (kF := q 2) (kS := q 3) (kL := q 4) (kE := q 5) (ho := ho) (f := k) (i := i) hb rfl rfl (np - i) i (Nat.le_refl _)
    rw [Nat.sub_self, Nat.zero_add, alB, utD, tb_0, Bool.true_and, Bool.or_false] at u
    unfold satB; rw [h]
    show _ = unV (q 2) (q 3) (q 4) (q 5) tm ho k i b (np - i) i
    rw [← u, utD_x (d := m - i) (np - i) (by omega) (fun x x1 x2 => ?_)]
    · rw [utD_c (l2 := fun x => ho (24 * q 2 k + x)) (r2 := fun x => ho (24 * q 3 k + x)) (tm2 := tm) (m - i) (fun x hx => ⟨ihl (by omega) x (by omega), ihr (by omega) x (by omega), rfl⟩)]
    · have t1 : tm d ≤ tm (i + x) := hT.2.2 _ _ (by omega) (by omega)
      exact li_no he (by omega)
