/-! each kind's advance keeps the nodes' property -/
section AVS
variable {np : Nat} {tm : Nat → Nat} {ph : Nat → Nat → Nat} {q : Nat → Nat → Nat} {ss : Nat → Nat → Nat → Int64} {k r h : Nat} {s x : Nat → Int64}
theorem CV_set (hc : 3 ≤ q 0 k → q 2 k ≠ k ∧ q 3 k ≠ k)
    (h0 : q 0 k = 0 → ∀ i, i < r → s i = atS (ph (q 1 k) i) (q 2 k) (q 3 k) 16)
    (h1 : q 0 k = 1 ∨ q 0 k = 2 → ∀ i, i < r → s i = cpS (decide (q 0 k = 2)) (q 2 k) (q 3 k) 16)
    (h2 : q 0 k = 3 → ∀ i, i < r → s i = ss 0 (q 2 k) i ^^^ (-1))
    (h3 : q 0 k = 4 ∨ q 0 k = 5 → ∀ i, i < r → s i = joF (decide (q 0 k = 4)) (ss 0 (q 2 k)) (ss 0 (q 3 k)) i)
    (h4 : q 0 k = 6 → ∀ i, i < r → s i = anV (q 1 k) (ss 0 (q 2 k) i))
    (h5 : q 0 k = 7 → ∀ i, i < r → s i = pvF (ss 0 (q 2 k)) tm (q 4 k) (q 5 k) i)
    (h6 : q 0 k = 8 → (∀ i, i < r → s i = siT (ss 0 (q 2 k)) (ss 0 (q 3 k)) tm (q 4 k) (q 5 k) i (i + 1)) ∧ SI (ss 0 (q 2 k)) (ss 0 (q 3 k)) tm (q 5 k) r h x)
    (h7 : q 0 k = 9 → (∀ i, i < r → UD (ss 0 (q 2 k)) (ss 0 (q 3 k)) tm (q 4 k) (q 5 k) np h i (s i)) ∧ UI (ss 0 (q 2 k)) (ss 0 (q 3 k)) tm (q 4 k) (q 5 k) r h s x) : CV np tm ph (setq q k r h) (sets ss k s x) k := by
  unfold CV
  rw [setq_c (c := 0) (by decide) (by decide), setq_c (c := 1) (by decide) (by decide), setq_c (c := 2) (by decide) (by decide), setq_c (c := 3) (by decide) (by decide), setq_c (c := 4) (by decide) (by decide), setq_c (c := 5) (by decide) (by decide), setq_8, setq_9, sets_0, sets_1]
  by_cases h9 : 3 ≤ q 0 k
  · rw [sets_o (hc h9).1, sets_o (hc h9).2]
    exact ⟨h0, h1, h2, h3, h4, h5, h6, h7⟩
  · exact ⟨h0, h1, fun h => by omega, fun h => by omega, fun h => by omega, fun h => by omega, fun h => by omega, fun h => by omega⟩
theorem RV_set (hc : 3 ≤ q 0 k → q 2 k ≠ k ∧ q 3 k ≠ k) (h0 : r ≤ np) (h1 : q 0 k ≤ 2 → r = np) (h2 : q 0 k = 3 ∨ q 0 k = 6 → r = q 8 (q 2 k)) (h3 : q 0 k = 4 ∨ q 0 k = 5 ∨ q 0 k = 8 → r = min (q 8 (q 2 k)) (q 8 (q 3 k))) (h4 : q 0 k = 7 → r = min np (q 8 (q 2 k) + 1))
    (h5 : q 0 k = 9 → h = min (q 8 (q 2 k)) (q 8 (q 3 k)) ∧ r ≤ min h (np - 1) ∧ (∀ j, j < r → tm j + q 5 k ≤ tm (min h (np - 1))) ∧ (r = min h (np - 1) ∨ tm (min h (np - 1)) < tm r + q 5 k)) : RV np tm (setq q k r h) k := by
  unfold RV
  rw [setq_c (c := 0) (by decide) (by decide), setq_c (c := 2) (by decide) (by decide), setq_c (c := 3) (by decide) (by decide), setq_c (c := 5) (by decide) (by decide), setq_8, setq_9]
  by_cases h9 : 3 ≤ q 0 k
  · rw [setq_o (hc h9).1, setq_o (hc h9).2]
    exact ⟨h0, h1, h2, h3, h4, h5⟩
  · exact ⟨h0, h1, fun h => by omega, fun h => by omega, fun h => by omega, fun h => by omega⟩
theorem BV.ne (hB : BV np tm ph q ss k) : 3 ≤ q 0 k → q 2 k ≠ k ∧ q 3 k ≠ k := fun h => ⟨Nat.ne_of_lt (hB.2.1 h).1, Nat.ne_of_lt (hB.2.1 h).2.1⟩
theorem AV_0 (hB : BV np tm ph q ss k) (hk : q 0 k = 0) {pv : Nat → Nat} (hp : ph (q 1 k) (q 8 k) = pv (q 1 k)) (x : Nat → Int64) (h : Nat) : AV np tm ph q ss k (q 8 k + 1) h (va_up (ss 0 k) (q 8 k) (atS (pv (q 1 k)) (q 2 k) (q 3 k) 16)) x := by
  refine ⟨by omega, fun i hi => va_up_ne _ _ (by omega), CV_set hB.ne (fun _ i hi => ?_) (by omega) (by omega) (by omega) (by omega) (by omega) (by omega) (by omega), RV_set hB.ne (by have := hB.2.2.1 (by omega); omega) (fun h => hB.2.2.1 h) (by omega) (by omega) (by omega) (by omega)⟩
  by_cases e : i = q 8 k
  · rw [e, va_up_self, hp]
  · rw [va_up_ne _ _ e]; exact hB.1.1 hk i (by omega)
theorem AV_1 (hB : BV np tm ph q ss k) (hk : q 0 k = 1 ∨ q 0 k = 2) (x : Nat → Int64) (h : Nat) : AV np tm ph q ss k (q 8 k + 1) h (va_up (ss 0 k) (q 8 k) (cpS (decide (q 0 k = 2)) (q 2 k) (q 3 k) 16)) x := by
  refine ⟨by omega, fun i hi => va_up_ne _ _ (by omega), CV_set hB.ne (by omega) (fun _ i hi => ?_) (by omega) (by omega) (by omega) (by omega) (by omega) (by omega), RV_set hB.ne (by have := hB.2.2.1 (by omega); omega) (fun h => hB.2.2.1 h) (by omega) (by omega) (by omega) (by omega)⟩
  by_cases e : i = q 8 k
  · rw [e, va_up_self]
  · rw [va_up_ne _ _ e]; exact hB.1.2.1 hk i (by omega)
theorem ex_all {se F : Nat → Int64} {a b : Nat} (h : ∀ i, i < a → se i = F i) : ∀ i, i < b → exT se F a b i = F i := by
  intro i hi
  by_cases e : a ≤ i
  · exact exT_in e hi
  · rw [exT_out (by omega)]; exact h i (by omega)
theorem AV_3 (hB : BV np tm ph q ss k) (hk : q 0 k = 3) (x : Nat → Int64) (h : Nat) : AV np tm ph q ss k (q 8 (q 2 k)) h (exT (ss 0 k) (fun j => ss 0 (q 2 k) j ^^^ (-1)) (q 8 k) (q 8 (q 2 k))) x := by
  have b1 := hB.2.1 (by omega)
  exact ⟨hB.2.2.2.1 (Or.inl hk), fun i hi => exT_out (by omega), CV_set hB.ne (by omega) (by omega) (fun _ => ex_all (hB.1.2.2.1 hk)) (by omega) (by omega) (by omega) (by omega) (by omega), RV_set hB.ne b1.2.2.1 (by omega) (fun _ => rfl) (by omega) (by omega) (by omega)⟩
theorem AV_4 (hB : BV np tm ph q ss k) (hk : q 0 k = 4 ∨ q 0 k = 5) (x : Nat → Int64) (h : Nat) : AV np tm ph q ss k (min (q 8 (q 2 k)) (q 8 (q 3 k))) h (exT (ss 0 k) (joF (decide (q 0 k = 4)) (ss 0 (q 2 k)) (ss 0 (q 3 k))) (q 8 k) (min (q 8 (q 2 k)) (q 8 (q 3 k)))) x := by
  have b1 := hB.2.1 (by omega)
  exact ⟨hB.2.2.2.2.1 (by omega), fun i hi => exT_out (by omega), CV_set hB.ne (by omega) (by omega) (by omega) (fun _ => ex_all (hB.1.2.2.2.1 hk)) (by omega) (by omega) (by omega) (by omega), RV_set hB.ne (by omega) (by omega) (by omega) (fun _ => rfl) (by omega) (by omega)⟩
theorem AV_6 (hB : BV np tm ph q ss k) (hk : q 0 k = 6) (x : Nat → Int64) (h : Nat) : AV np tm ph q ss k (q 8 (q 2 k)) h (exT (ss 0 k) (fun j => anV (q 1 k) (ss 0 (q 2 k) j)) (q 8 k) (q 8 (q 2 k))) x := by
  have b1 := hB.2.1 (by omega)
  exact ⟨hB.2.2.2.1 (Or.inr hk), fun i hi => exT_out (by omega), CV_set hB.ne (by omega) (by omega) (by omega) (by omega) (fun _ => ex_all (hB.1.2.2.2.2.1 hk)) (by omega) (by omega) (by omega), RV_set hB.ne b1.2.2.1 (by omega) (fun _ => rfl) (by omega) (by omega) (by omega)⟩
theorem AV_7 (hB : BV np tm ph q ss k) (hk : q 0 k = 7) (x : Nat → Int64) (h : Nat) : AV np tm ph q ss k (min np (q 8 (q 2 k) + 1)) h (exT (ss 0 k) (pvF (ss 0 (q 2 k)) tm (q 4 k) (q 5 k)) (q 8 k) (min np (q 8 (q 2 k) + 1))) x := by
  have b1 := hB.2.1 (by omega)
  exact ⟨hB.2.2.2.2.2.1 hk, fun i hi => exT_out (by omega), CV_set hB.ne (by omega) (by omega) (by omega) (by omega) (by omega) (fun _ => ex_all (hB.1.2.2.2.2.2.1 hk)) (by omega) (by omega), RV_set hB.ne (by omega) (by omega) (by omega) (by omega) (fun _ => rfl) (by omega)⟩
theorem AV_8 (hB : BV np tm ph q ss k) (hk : q 0 k = 8) (hI : SI (ss 0 (q 2 k)) (ss 0 (q 3 k)) tm (q 5 k) (min (q 8 (q 2 k)) (q 8 (q 3 k))) h x) : AV np tm ph q ss k (min (q 8 (q 2 k)) (q 8 (q 3 k))) h (exT (ss 0 k) (fun i => siT (ss 0 (q 2 k)) (ss 0 (q 3 k)) tm (q 4 k) (q 5 k) i (i + 1)) (q 8 k) (min (q 8 (q 2 k)) (q 8 (q 3 k)))) x := by
  have b1 := hB.2.1 (by omega)
  exact ⟨hB.2.2.2.2.1 (by omega), fun i hi => exT_out (by omega), CV_set hB.ne (by omega) (by omega) (by omega) (by omega) (by omega) (by omega) (fun _ => ⟨ex_all (hB.1.2.2.2.2.2.2.1 hk).1, hI⟩) (by omega), RV_set hB.ne (by omega) (by omega) (by omega) (fun _ => rfl) (by omega) (by omega)⟩
theorem AV_9 (hB : BV np tm ph q ss k) (hT : TL np tm) (hk : q 0 k = 9) (h1 : q 8 k ≤ r ∧ r ≤ min (min (q 8 (q 2 k)) (q 8 (q 3 k))) (np - 1)) (h2 : ∀ j, q 8 k ≤ j → j < r → tm j + q 5 k ≤ tm (min (min (q 8 (q 2 k)) (q 8 (q 3 k))) (np - 1))) (h3 : r = min (min (q 8 (q 2 k)) (q 8 (q 3 k))) (np - 1) ∨ tm (min (min (q 8 (q 2 k)) (q 8 (q 3 k))) (np - 1)) < tm r + q 5 k) (h4 : ∀ i, i < q 8 k → s i = ss 0 k i) (hU : UI (ss 0 (q 2 k)) (ss 0 (q 3 k)) tm (q 4 k) (q 5 k) (q 8 k) (min (q 8 (q 2 k)) (q 8 (q 3 k))) s x) : AV np tm ph q ss k r (min (q 8 (q 2 k)) (q 8 (q 3 k))) s x := by
  have b1 := hB.2.1 (by omega)
  have b2 := hB.2.2.2.2.2.2 hk
  have hj : ∀ j, j < r → tm j + q 5 k ≤ tm (min (min (q 8 (q 2 k)) (q 8 (q 3 k))) (np - 1)) := fun j hj => by
    by_cases e : q 8 k ≤ j
    · exact h2 j e hj
    · exact b2.2.2.2.2 j (by omega)
  refine ⟨h1.1, h4, CV_set hB.ne (by omega) (by omega) (by omega) (by omega) (by omega) (by omega) (by omega) (fun _ => ⟨fun i hi => ?_, fun i a b => hU i (by omega) b⟩), RV_set hB.ne (by omega) (by omega) (by omega) (by omega) (by omega) (fun _ => ⟨rfl, h1.2, hj, h3⟩)⟩
  by_cases e : q 8 k ≤ i
  · exact ⟨_, min (min (q 8 (q 2 k)) (q 8 (q 3 k))) (np - 1), by omega, Nat.le_refl _, by omega, by omega, hj i hi, (hU i e (by omega)).2⟩
  · rw [h4 i (by omega)]
    obtain ⟨m, b, e1, e2, e3, e4, e5, e6⟩ := (hB.1.2.2.2.2.2.2.2 hk).1 i (by omega)
    exact ⟨m, b, e1, by omega, e3, e4, e5, e6⟩
end AVS
