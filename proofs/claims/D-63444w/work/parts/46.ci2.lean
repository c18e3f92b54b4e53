/-! the component's state when one node changes -/
theorem CI_set {G : mm_G} {Z : Nat × Nat} {xs : Nat → Nat} {n : Nat} {wt : Bool} {np : Nat} {tm pv : Nat → Nat} {q ad : Nat → Nat → Nat} {CL : Nat → Bool} {ss : Nat → Nat → Nat → Int64} {rh : Nat → Nat × Nat} {L : List Nat} {f f1 : Nat → va_E} {k r h : Nat} {s x : Nat → Int64} (hC : CI G Z xs n wt np tm pv q ad CL ss rh L f) (hn : n ≤ 12) (hk : k < n) (hKP : KP L f L f1 (fun a => a = ad 0 k ∨ a = ad 1 k ∨ (8 ≤ q 0 k ∧ a = ad 2 k))) (hF : FC G (setq q k r h) ad CL (sets ss k s x) L f1 k) : CI G Z xs n wt np tm pv (setq q k r h) ad CL (sets ss k s x) rh L f1 := by
  obtain ⟨h1, h2, ⟨g1, g2, g3⟩, h4, h5⟩ := hC
  obtain ⟨⟨x0, x1, x2, x3, x4, x5⟩, hr⟩ := h5
  obtain ⟨t0, t1, t2, t3⟩ := hr k hk
  have no : ∀ a i, rh a = (12, i) → ¬ (a = ad 0 k ∨ a = ad 1 k ∨ (8 ≤ q 0 k ∧ a = ad 2 k)) := by
    intro a i ha h
    rcases h with h | h | ⟨h8, h⟩
    · rw [h, t0] at ha; have := (Prod.mk.inj ha).1; omega
    · rw [h, t1] at ha; have := (Prod.mk.inj ha).1; omega
    · rw [h, t2 h8] at ha; have := (Prod.mk.inj ha).1; omega
  refine ⟨hKP _ _ h1 (no _ _ x0), h2.kp hKP (no _ _ x1) ?_, ⟨hKP _ _ g1 (no _ _ x2), hKP _ _ g2 (no _ _ x3), hKP _ _ g3 (no _ _ x4)⟩, fun j hj => ?_, RHO_set ⟨⟨x0, x1, x2, x3, x4, x5⟩, hr⟩⟩
  · by_cases e : xs 5 = xs 1
    · rw [e]; exact no _ _ x1
    · exact no _ _ (x5 e)
  · by_cases e : j = k
    · rw [e]; exact hF
    · exact FC_o (h4 j hj) ⟨⟨x0, x1, x2, x3, x4, x5⟩, hr⟩ hj hk e hKP
theorem sets_id (ss : Nat → Nat → Nat → Int64) (k : Nat) : sets ss k (ss 0 k) (ss 1 k) = ss := by
  funext c j
  by_cases e : j = k
  · subst e
    unfold sets
    by_cases h0 : c = 0
    · rw [if_pos h0, va_up_self, h0]
    · rw [if_neg h0]
      by_cases h1 : c = 1
      · rw [if_pos h1, va_up_self, h1]
      · rw [if_neg h1]
  · exact sets_o e
theorem CI_res {G : mm_G} {Z : Nat × Nat} {xs : Nat → Nat} {n : Nat} {wt : Bool} {np : Nat} {tm pv : Nat → Nat} {q ad : Nat → Nat → Nat} {CL : Nat → Bool} {ss : Nat → Nat → Nat → Int64} {rh : Nat → Nat × Nat} {L : List Nat} {f f1 : Nat → va_E} {k : Nat} (hC : CI G Z xs n wt np tm pv q ad CL ss rh L f) (hn : n ≤ 12) (hk : k < n) (hKP : KP L f L f1 (fun a => a = ad 0 k ∨ a = ad 1 k ∨ (8 ≤ q 0 k ∧ a = ad 2 k))) (hN : PLc L f1 (ad 0 k) (ndE (setq q k 0 0) ad CL k)) (hO : ∀ a e, PLc L f a e → a ≠ ad 0 k → PLc L f1 a e) : CI G Z xs n wt np tm pv (setq q k 0 0) ad CL ss rh L f1 := by
  have hF := hC.2.2.2.1 k hk
  have hr := hC.2.2.2.2.2 k hk
  have := CI_set (s := ss 0 k) (x := ss 1 k) (r := 0) (h := 0) hC hn hk hKP ⟨hN, by rw [sets_0]; exact hO _ _ hF.2.1 (ne_rh hr.2.1 hr.1 (by simp)), fun h7 => by
    rw [setq_c (by decide) (by decide)] at h7
    rw [setq_c (by decide) (by decide), setq_c (by decide) (by decide)]
    exact hO _ _ (hF.2.2.1 h7) (ne_rh (hr.2.2.2 h7) hr.1 (by simp)), fun h8 => by
    rw [setq_c (by decide) (by decide)] at h8
    rw [sets_1]
    exact hO _ _ (hF.2.2.2 h8) (ne_rh (hr.2.2.1 h8) hr.1 (by simp))⟩
  rwa [sets_id] at this
/-- only the log's three cells change -/
theorem CI_log {G : mm_G} {Z : Nat × Nat} {xs : Nat → Nat} {n : Nat} {wt : Bool} {np np1 : Nat} {tm pv tm1 pv1 : Nat → Nat} {q ad : Nat → Nat → Nat} {CL : Nat → Bool} {ss : Nat → Nat → Nat → Int64} {rh : Nat → Nat × Nat} {L : List Nat} {f f1 : Nat → va_E} (hC : CI G Z xs n wt np tm pv q ad CL ss rh L f) (hn : n ≤ 12) (hKP : KP L f L f1 (fun a => a = xs 2 ∨ a = xs 3 ∨ a = xs 4)) (hG : LGf G xs np1 tm1 pv1 L f1) : CI G Z xs n wt np1 tm1 pv1 q ad CL ss rh L f1 := by
  obtain ⟨h1, h2, -, h4, ⟨⟨x0, x1, x2, x3, x4, x5⟩, hr⟩⟩ := hC
  have no : ∀ a y, rh a = y → y ≠ (12, 2) → y ≠ (12, 3) → y ≠ (12, 4) → ¬ (a = xs 2 ∨ a = xs 3 ∨ a = xs 4) := by
    rintro a y ha n2 n3 n4 (h | h | h)
    · exact n2 (by rw [← ha, h, x2])
    · exact n3 (by rw [← ha, h, x3])
    · exact n4 (by rw [← ha, h, x4])
  refine ⟨hKP _ _ h1 (no _ _ x0 (by simp) (by simp) (by simp)), h2.kp hKP (no _ _ x1 (by simp) (by simp) (by simp)) ?_, hG, fun j hj => ?_, ⟨⟨x0, x1, x2, x3, x4, x5⟩, hr⟩⟩
  · by_cases e : xs 5 = xs 1
    · rw [e]; exact no _ _ x1 (by simp) (by simp) (by simp)
    · exact no _ _ (x5 e) (by simp) (by simp) (by simp)
  · obtain ⟨f0, f1, f2, f3⟩ := h4 j hj
    obtain ⟨r0, r1, r2, r3⟩ := hr j hj
    have nj : ∀ i i2 : Nat, (j, i) ≠ (12, i2) := fun i i2 e => by have := (Prod.mk.inj e).1; omega
    exact ⟨hKP _ _ f0 (no _ _ r0 (nj _ _) (nj _ _) (nj _ _)), hKP _ _ f1 (no _ _ r1 (nj _ _) (nj _ _) (nj _ _)), fun h => hKP _ _ (f2 h) (no _ _ (r3 h) (nj _ _) (nj _ _) (nj _ _)), fun h => hKP _ _ (f3 h) (no _ _ (r2 h) (nj _ _) (nj _ _) (nj _ _))⟩
/-- only the monitor's own cell changes -/
theorem CI_own {G : mm_G} {Z : Nat × Nat} {xs : Nat → Nat} {n : Nat} {wt wt1 : Bool} {np : Nat} {tm pv : Nat → Nat} {q ad : Nat → Nat → Nat} {CL : Nat → Bool} {ss : Nat → Nat → Nat → Int64} {rh : Nat → Nat × Nat} {L : List Nat} {f f1 : Nat → va_E} (hC : CI G Z xs n wt np tm pv q ad CL ss rh L f) (hn : n ≤ 12) (hKP : KP L f L f1 (fun a => a = xs 0)) (hX : XOf xs wt1 L f1) : CI G Z xs n wt1 np tm pv q ad CL ss rh L f1 := by
  obtain ⟨h1, h2, ⟨g1, g2, g3⟩, h4, ⟨⟨x0, x1, x2, x3, x4, x5⟩, hr⟩⟩ := hC
  have no : ∀ a y, rh a = y → y ≠ (12, 0) → ¬ (a = xs 0) := fun a y ha n0 h => n0 (by rw [← ha, h, x0])
  refine ⟨hX, h2.kp hKP (no _ _ x1 (by simp)) ?_, ⟨hKP _ _ g1 (no _ _ x2 (by simp)), hKP _ _ g2 (no _ _ x3 (by simp)), hKP _ _ g3 (no _ _ x4 (by simp))⟩, fun j hj => ?_, ⟨⟨x0, x1, x2, x3, x4, x5⟩, hr⟩⟩
  · by_cases e : xs 5 = xs 1
    · rw [e]; exact no _ _ x1 (by simp)
    · exact no _ _ (x5 e) (by simp)
  · obtain ⟨f0, f1, f2, f3⟩ := h4 j hj
    obtain ⟨r0, r1, r2, r3⟩ := hr j hj
    have nj : ∀ i : Nat, (j, i) ≠ (12, 0) := fun i e => by have := (Prod.mk.inj e).1; omega
    exact ⟨hKP _ _ f0 (no _ _ r0 (nj _)), hKP _ _ f1 (no _ _ r1 (nj _)), fun h => hKP _ _ (f2 h) (no _ _ (r3 h) (nj _)), fun h => hKP _ _ (f3 h) (no _ _ (r2 h) (nj _))⟩
def BI (G : mm_G) (Z : Nat × Nat) (xs : Nat → Nat) (n : Nat) (wt : Bool) (np : Nat) (tm pv : Nat → Nat) (q0 ad : Nat → Nat → Nat) (CL : Nat → Bool) (ss : Nat → Nat → Nat → Int64) (rh : Nat → Nat × Nat) (L : List Nat) (k : Nat) (f : Nat → va_E) (q : Nat → Nat → Nat) : Prop := CI G Z xs n wt np tm pv q ad CL ss rh L f ∧ (∀ c, c ≠ 8 → c ≠ 9 → q c = q0 c) ∧ (∀ j, j < k → q 8 j = 0 ∧ q 9 j = 0) ∧ k ≤ n
theorem setq_f {q : Nat → Nat → Nat} {k r h c : Nat} (h8 : c ≠ 8) (h9 : c ≠ 9) : setq q k r h c = q c := by unfold setq; rw [if_neg h8, if_neg h9]
theorem BI_s {G : mm_G} {Z : Nat × Nat} {xs : Nat → Nat} {n : Nat} {wt : Bool} {np : Nat} {tm pv : Nat → Nat} {q0 q ad : Nat → Nat → Nat} {CL : Nat → Bool} {ss : Nat → Nat → Nat → Int64} {rh : Nat → Nat × Nat} {L : List Nat} {f f1 : Nat → va_E} {k : Nat} (hB : BI G Z xs n wt np tm pv q0 ad CL ss rh L k f q) (hn : n ≤ 12) (hk : k < n) (hKP : KP L f L f1 (fun a => a = ad 0 k ∨ a = ad 1 k ∨ (8 ≤ q 0 k ∧ a = ad 2 k))) (hN : PLc L f1 (ad 0 k) (ndE (setq q k 0 0) ad CL k)) (hO : ∀ a e, PLc L f a e → a ≠ ad 0 k → PLc L f1 a e) : BI G Z xs n wt np tm pv q0 ad CL ss rh L (k + 1) f1 (setq q k 0 0) := by
  refine ⟨CI_res hB.1 hn hk hKP hN hO, fun c h8 h9 => (setq_f h8 h9).trans (hB.2.1 c h8 h9), fun j hj => ?_, hk⟩
  by_cases e : j = k
  · subst e; exact ⟨setq_8, setq_9⟩
  · rw [setq_o e, setq_o e]; exact hB.2.2.1 j (by omega)
/-- after a beginning: nothing is settled, the log is empty -/
def RSP (G : mm_G) (A : Nat → Prop) (Z : Nat × Nat) (xs : Nat → Nat) (n : Nat) (wt : Bool) (tm : Nat → Nat) (q ad : Nat → Nat → Nat) (CL : Nat → Bool) (ss : Nat → Nat → Nat → Int64) (rh : Nat → Nat × Nat) (L : List Nat) (H : Heap) : Prop := ∃ (f1 : Nat → va_E) (pv1 : Nat → Nat) (q1 : Nat → Nat → Nat), PO G A L f1 H ∧ (∀ j, j < 3 → pv1 j = 0) ∧ (∀ c, c ≠ 8 → c ≠ 9 → q1 c = q c) ∧ (∀ j, j < n → q1 8 j = 0 ∧ q1 9 j = 0) ∧ CI G Z xs n wt 0 tm pv1 q1 ad CL ss rh L f1
/-- the list is emptied -/
theorem CI_0 {G : mm_G} {Z : Nat × Nat} {xs : Nat → Nat} {n : Nat} {wt : Bool} {np : Nat} {tm pv : Nat → Nat} {q ad : Nat → Nat → Nat} {CL : Nat → Bool} {ss : Nat → Nat → Nat → Int64} {rh : Nat → Nat × Nat} {L : List Nat} {f f1 : Nat → va_E} (hC : CI G Z xs n wt np tm pv q ad CL ss rh L f) (hA : ALf G Z xs 0 (ad 0) L f1) (hKP : KP L f L f1 (fun a => a = xs 1 ∨ a = xs 5)) : CI G Z xs 0 wt np tm pv q ad CL ss rh L f1 := by
  obtain ⟨h1, h2, ⟨g1, g2, g3⟩, h4, ⟨⟨x0, x1, x2, x3, x4, x5⟩, hr⟩⟩ := hC
  have no : ∀ a y, rh a = y → y ≠ (12, 1) → y ≠ (12, 5) → ¬ (a = xs 1 ∨ a = xs 5) := by
    rintro a y ha n1 n5 (h | h)
    · exact n1 (by rw [← ha, h, x1])
    · by_cases e : xs 5 = xs 1
      · exact n1 (by rw [← ha, h, e, x1])
      · exact n5 (by rw [← ha, h, x5 e])
  exact ⟨hKP _ _ h1 (no _ _ x0 (by simp) (by simp)), hA, ⟨hKP _ _ g1 (no _ _ x2 (by simp) (by simp)), hKP _ _ g2 (no _ _ x3 (by simp) (by simp)), hKP _ _ g3 (no _ _ x4 (by simp) (by simp))⟩, fun j hj => absurd hj (Nat.not_lt_zero j), ⟨⟨x0, x1, x2, x3, x4, x5⟩, fun j hj => absurd hj (Nat.not_lt_zero j)⟩⟩
