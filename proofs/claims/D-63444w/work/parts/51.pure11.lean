/-! a place: the loop over the nodes -/
section PIS
variable {np : Nat} {tm tm1 : Nat → Nat} {ph ph1 : Nat → Nat → Nat} {q0 q : Nat → Nat → Nat} {s0 ss : Nat → Nat → Nat → Int64} {n k j r h : Nat} {s x : Nat → Int64}
theorem CV_oth (hC : CV np tm ph q ss j) (hc : 3 ≤ q 0 j → q 2 j < j ∧ q 3 j < j) (hjk : j < k) : CV np tm ph (setq q k r h) (sets ss k s x) j := by
  have hne : j ≠ k := Nat.ne_of_lt hjk
  unfold CV
  rw [setq_o (c := 0) hne, setq_o (c := 1) hne, setq_o (c := 2) hne, setq_o (c := 3) hne, setq_o (c := 4) hne, setq_o (c := 5) hne, setq_o (c := 8) hne, setq_o (c := 9) hne, sets_o (c := 0) hne, sets_o (c := 1) hne]
  by_cases h9 : 3 ≤ q 0 j
  · rw [sets_o (Nat.ne_of_lt (Nat.lt_trans (hc h9).1 hjk)), sets_o (Nat.ne_of_lt (Nat.lt_trans (hc h9).2 hjk))]
    exact hC
  · exact ⟨hC.1, hC.2.1, fun h => by omega, fun h => by omega, fun h => by omega, fun h => by omega, fun h => by omega, fun h => by omega⟩
theorem RV_oth (hR : RV np tm q j) (hc : 3 ≤ q 0 j → q 2 j < j ∧ q 3 j < j) (hjk : j < k) : RV np tm (setq q k r h) j := by
  have hne : j ≠ k := Nat.ne_of_lt hjk
  unfold RV
  rw [setq_o (c := 0) hne, setq_o (c := 2) hne, setq_o (c := 3) hne, setq_o (c := 5) hne, setq_o (c := 8) hne, setq_o (c := 9) hne]
  by_cases h9 : 3 ≤ q 0 j
  · rw [setq_o (Nat.ne_of_lt (Nat.lt_trans (hc h9).1 hjk)), setq_o (Nat.ne_of_lt (Nat.lt_trans (hc h9).2 hjk))]
    exact hR
  · exact ⟨hR.1, hR.2.1, fun h => by omega, fun h => by omega, fun h => by omega, fun h => by omega⟩
def PI (n np : Nat) (tm1 : Nat → Nat) (ph1 : Nat → Nat → Nat) (q0 : Nat → Nat → Nat) (s0 : Nat → Nat → Nat → Int64) (k : Nat) (q : Nat → Nat → Nat) (ss : Nat → Nat → Nat → Int64) : Prop :=
  (∀ c, c ≠ 8 → c ≠ 9 → q c = q0 c) ∧ (∀ j, k ≤ j → (∀ c, q c j = q0 c j) ∧ ∀ c, ss c j = s0 c j) ∧ (∀ j, j < k → CV (np + 1) tm1 ph1 q ss j ∧ RV (np + 1) tm1 q j ∧ q0 8 j ≤ q 8 j ∧ ∀ i, i < q0 8 j → ss 0 j i = s0 0 j i) ∧ k ≤ n
theorem PI_0 : PI n np tm1 ph1 q0 s0 0 q0 s0 := ⟨fun _ _ _ => rfl, fun _ _ => ⟨fun _ => rfl, fun _ => rfl⟩, fun j hj => absurd hj (Nat.not_lt_zero j), Nat.zero_le _⟩
theorem PI_B (hI : PI n np tm1 ph1 q0 s0 k q ss) (hk : k < n) (hW : WF n (q0 0) (q0 1) (q0 2) (q0 3) (q0 4) (q0 5)) (hO : ∀ j, j < n → CV np tm ph q0 s0 j ∧ RV np tm q0 j) (htm : ∀ i, i < np → tm i = tm1 i) (hph : ∀ r i, i < np → ph r i = ph1 r i) (hT : TL (np + 1) tm1) : BV (np + 1) tm1 ph1 q ss k := by
  obtain ⟨i1, i2, i3, i4⟩ := hI
  obtain ⟨w1, w2, w3, w4, w5, w6⟩ := hW.2 k hk
  obtain ⟨o1, o2⟩ := hO k hk
  obtain ⟨e1, e2⟩ := i2 k (Nat.le_refl _)
  have c2 : 3 ≤ q0 0 k → q0 2 k < k ∧ q0 3 k < k := w6
  refine ⟨CV_mv o2 o1 (fun h3 => ⟨(hO _ (by have := c2 h3; omega)).2.1, (hO _ (by have := c2 h3; omega)).2.1⟩) (Nat.le_succ _) htm hph e1 e2 (fun h3 i hi => (i3 _ (c2 h3).1).2.2.2 i hi) (fun h3 i hi => (i3 _ (c2 h3).2).2.2.2 i hi), ?_, ?_, ?_, ?_, ?_, ?_⟩
  · rw [e1 0, e1 2, e1 3]
    intro h3
    exact ⟨(c2 h3).1, (c2 h3).2, (i3 _ (c2 h3).1).2.1.1, (i3 _ (c2 h3).2).2.1.1⟩
  · rw [e1 0, e1 8]
    intro h; rw [o2.2.1 h]
  · rw [e1 0, e1 2, e1 8]
    intro h
    rw [o2.2.2.1 h]
    exact (i3 _ (c2 (by omega)).1).2.2.1
  · rw [e1 0, e1 2, e1 3, e1 8]
    intro h
    rw [o2.2.2.2.1 h]
    have a1 := (i3 _ (c2 (by omega)).1).2.2.1
    have a2 := (i3 _ (c2 (by omega)).2).2.2.1
    omega
  · rw [e1 0, e1 2, e1 8]
    intro h
    rw [o2.2.2.2.2.1 h]
    have a1 := (i3 _ (c2 (by omega)).1).2.2.1
    omega
  · rw [e1 0, e1 2, e1 3, e1 5, e1 8, e1 9]
    intro h
    obtain ⟨b1, b2, b3, b4⟩ := o2.2.2.2.2.2 h
    have a1 := (i3 _ (c2 (by omega)).1).2.2.1
    have a2 := (i3 _ (c2 (by omega)).2).2.2.1
    refine ⟨by omega, by omega, by omega, by omega, fun j hj => ?_⟩
    have h5 := b3 j hj
    rw [htm j (by omega), htm _ (by omega)] at h5
    exact Nat.le_trans h5 (hT.2.2 _ _ (by omega) (by omega))
theorem PI_s (hI : PI n np tm1 ph1 q0 s0 k q ss) (hk : k < n) (hW : WF n (q0 0) (q0 1) (q0 2) (q0 3) (q0 4) (q0 5)) (hA : AV (np + 1) tm1 ph1 q ss k r h s x) : PI n np tm1 ph1 q0 s0 (k + 1) (setq q k r h) (sets ss k s x) := by
  obtain ⟨i1, i2, i3, i4⟩ := hI
  obtain ⟨a1, a2, a3, a4⟩ := hA
  obtain ⟨e1, e2⟩ := i2 k (Nat.le_refl _)
  refine ⟨fun c h8 h9 => (setq_f h8 h9).trans (i1 c h8 h9), fun j hj => ⟨fun c => ?_, fun c => ?_⟩, fun j hj => ?_, hk⟩
  · rw [setq_o (by omega)]; exact (i2 j (by omega)).1 c
  · rw [sets_o (by omega)]; exact (i2 j (by omega)).2 c
  · by_cases e : j = k
    · subst e
      refine ⟨a3, a4, by rw [setq_8, ← e1 8]; exact a1, fun i hi => ?_⟩
      rw [sets_0, ← e2 0]
      exact a2 i (by rw [e1 8]; exact hi)
    · obtain ⟨b1, b2, b3, b4⟩ := i3 j (by omega)
      have hc : 3 ≤ q 0 j → q 2 j < j ∧ q 3 j < j := by
        rw [i1 0 (by decide) (by decide), i1 2 (by decide) (by decide), i1 3 (by decide) (by decide)]
        exact (hW.2 j (by omega)).2.2.2.2.2
      refine ⟨CV_oth b1 hc (by omega), RV_oth b2 hc (by omega), by rw [setq_o e]; exact b3, fun i hi => ?_⟩
      rw [sets_o e]; exact b4 i hi
end PIS
section CIX
variable {G : mm_G} {Z : Nat × Nat} {xs : Nat → Nat} {n : Nat} {wt : Bool} {np : Nat} {tm pv : Nat → Nat} {q ad : Nat → Nat → Nat} {CL : Nat → Bool} {ss : Nat → Nat → Nat → Int64} {rh : Nat → Nat × Nat} {L L1 : List Nat} {f f1 : Nat → va_E}
theorem CI_ext (hC : CI G Z xs n wt np tm pv q ad CL ss rh L f) (hE : EXT L f L1 f1) : CI G Z xs n wt np tm pv q ad CL ss rh L1 f1 := by
  obtain ⟨h1, h2, ⟨g1, g2, g3⟩, h4, h5⟩ := hC
  refine ⟨h1.ext hE, h2.ext hE, ⟨g1.ext hE, g2.ext hE, g3.ext hE⟩, fun j hj => ?_, h5⟩
  obtain ⟨f0, f1, f2, f3⟩ := h4 j hj
  exact ⟨f0.ext hE, f1.ext hE, fun h => (f2 h).ext hE, fun h => (f3 h).ext hE⟩
theorem CI_rh {it : Nat} {y : Nat × Nat} (hC : CI G Z xs n wt np tm pv q ad CL ss rh L f) (hi : it ∉ L) : CI G Z xs n wt np tm pv q ad CL ss (va_up rh it y) L f := by
  obtain ⟨h1, h2, ⟨g1, g2, g3⟩, h4, ⟨⟨x0, x1, x2, x3, x4, x5⟩, hr⟩⟩ := hC
  have ne : ∀ a, a ∈ L → a ≠ it := fun a ha e => hi (e ▸ ha)
  have hm := h2.mem
  refine ⟨h1, h2, ⟨g1, g2, g3⟩, h4, ⟨⟨?_, ?_, ?_, ?_, ?_, fun h => ?_⟩, fun j hj => ?_⟩⟩
  · rw [va_up_ne _ _ (ne _ h1.1)]; exact x0
  · rw [va_up_ne _ _ (ne _ hm.1)]; exact x1
  · rw [va_up_ne _ _ (ne _ g1.1)]; exact x2
  · rw [va_up_ne _ _ (ne _ g2.1)]; exact x3
  · rw [va_up_ne _ _ (ne _ g3.1)]; exact x4
  · rw [va_up_ne _ _ (ne _ hm.2)]; exact x5 h
  · obtain ⟨f0, f1, f2, f3⟩ := h4 j hj
    obtain ⟨r0, r1, r2, r3⟩ := hr j hj
    refine ⟨?_, ?_, fun h => ?_, fun h => ?_⟩
    · rw [va_up_ne _ _ (ne _ f0.1)]; exact r0
    · rw [va_up_ne _ _ (ne _ f1.1)]; exact r1
    · rw [va_up_ne _ _ (ne _ (f3 h).1)]; exact r2 h
    · rw [va_up_ne _ _ (ne _ (f2 h).1)]; exact r3 h
theorem CI_it {it : Nat} (hC : CI G Z xs n wt np tm pv q ad CL ss rh L f) (hn : n ≤ 12) (hi : rh it = (13, 0)) (hKP : KP L f L f1 (fun a => a = it)) : CI G Z xs n wt np tm pv q ad CL ss rh L f1 := by
  obtain ⟨h1, h2, ⟨g1, g2, g3⟩, h4, ⟨⟨x0, x1, x2, x3, x4, x5⟩, hr⟩⟩ := hC
  have no : ∀ a y, rh a = y → y ≠ (13, 0) → ¬ (a = it) := fun a y ha n0 h => n0 (by rw [← ha, h, hi])
  refine ⟨hKP _ _ h1 (no _ _ x0 (by simp)), h2.kp hKP (no _ _ x1 (by simp)) ?_, ⟨hKP _ _ g1 (no _ _ x2 (by simp)), hKP _ _ g2 (no _ _ x3 (by simp)), hKP _ _ g3 (no _ _ x4 (by simp))⟩, fun j hj => ?_, ⟨⟨x0, x1, x2, x3, x4, x5⟩, hr⟩⟩
  · by_cases e : xs 5 = xs 1
    · rw [e]; exact no _ _ x1 (by simp)
    · exact no _ _ (x5 e) (by simp)
  · obtain ⟨f0, f1, f2, f3⟩ := h4 j hj
    obtain ⟨r0, r1, r2, r3⟩ := hr j hj
    have nj : ∀ i : Nat, (j, i) ≠ (13, 0) := fun i e => by have := (Prod.mk.inj e).1; omega
    exact ⟨hKP _ _ f0 (no _ _ r0 (nj _)), hKP _ _ f1 (no _ _ r1 (nj _)), fun h => hKP _ _ (f2 h) (no _ _ (r3 h) (nj _)), fun h => hKP _ _ (f3 h) (no _ _ (r2 h) (nj _))⟩
end CIX
theorem ALf.lam {G : mm_G} {Z : Nat × Nat} {xs : Nat → Nat} {n : Nat} {nd : Nat → Nat} {L : List Nat} {f : Nat → va_E} (h : ALf G Z xs n nd L f) : ∃ (v0 : Value) (mcn : Int32), PLc L f (xs 1) (.inr (11, [v0, .int (nI n), .int mcn])) := by
  obtain ⟨mcn, ⟨rfl, -, h⟩ | ⟨cap, g, -, -, h, -⟩⟩ := h
  · exact ⟨_, _, h⟩
  · exact ⟨_, _, h⟩
theorem la_eq {L : List Nat} {f : Nat → va_E} {a : Nat} {v0 w0 v1 w1 : Value} {m1 m2 : Int32} (h1 : PLc L f a (.inr (11, [v0, v1, .int m1]))) (h2 : PLc L f a (.inr (11, [w0, w1, .int m2]))) : m2 = m1 := by
  have := h1.2.symm.trans h2.2
  simp at this
  exact this.2.2.symm
theorem RHO.no {rh : Nat → Nat × Nat} {q ad : Nat → Nat → Nat} {xs : Nat → Nat} {n k a i j : Nat} (hR : RHO rh q ad xs n) (hk : k < n) (ha : rh a = (i, j)) (hi : i ≠ k) : ¬ (a = ad 0 k ∨ a = ad 1 k ∨ (8 ≤ q 0 k ∧ a = ad 2 k)) := by
  obtain ⟨t0, t1, t2, t3⟩ := hR.2 k hk
  rintro (h | h | ⟨h8, h⟩)
  · rw [h, t0] at ha; exact hi (Prod.mk.inj ha).1.symm
  · rw [h, t1] at ha; exact hi (Prod.mk.inj ha).1.symm
  · rw [h, t2 h8] at ha; exact hi (Prod.mk.inj ha).1.symm
theorem nI_sub1 {n : Nat} (h : 0 < n) : nI n - nI 1 = nI (n - 1) := by
  obtain ⟨k, rfl⟩ : ∃ k, n = k + 1 := ⟨n - 1, by omega⟩
  exact nI_pred k
