/-! what the component's nodes hold, as a property that a place keeps -/
theorem hvD_c {l l2 r r2 : Nat → Int64} {j : Nat} : ∀ d, (∀ i, i ≤ j + d → l i = l2 i ∧ r i = r2 i) → hvD l r j d = hvD l2 r2 j d := by
  intro d
  induction d with
  | zero => intro h; exact (h j (by omega)).2
  | succ d ih => intro h; rw [hvD, hvD, ih (fun i hi => h i (by omega)), (h (j + d + 1) (by omega)).1]
theorem siT_c {l l2 r r2 : Nat → Int64} {tm tm2 : Nat → Nat} {lw e0 k : Nat} (h : ∀ i, i ≤ k → l i = l2 i ∧ r i = r2 i ∧ tm i = tm2 i) : ∀ q, q ≤ k + 1 → siT l r tm lw e0 k q = siT l2 r2 tm2 lw e0 k q := by
  intro q
  induction q with
  | zero => intro _; rfl
  | succ q ih =>
    intro hq
    rw [siT, siT, ih (by omega), (h k (by omega)).2.2, (h q (by omega)).2.2, hvD_c (l2 := l2) (r2 := r2) (k - q) (fun i hi => ⟨(h i (by omega)).1, (h i (by omega)).2.1⟩)]
theorem alD_c {l l2 : Nat → Int64} {i : Nat} : ∀ d, (∀ x, x < i + d → l x = l2 x) → alD l i d = alD l2 i d := by
  intro d
  induction d with
  | zero => intro _; rfl
  | succ d ih => intro h; rw [alD, alD, ih (fun x hx => h x (by omega)), h (i + d) (by omega)]
theorem utD_c {l l2 r r2 : Nat → Int64} {tm tm2 : Nat → Nat} {lw e0 i : Nat} : ∀ d, (∀ x, x < i + d → l x = l2 x ∧ r x = r2 x ∧ tm x = tm2 x) → utD l r tm lw e0 i d = utD l2 r2 tm2 lw e0 i d := by
  intro d
  induction d with
  | zero => intro _; rfl
  | succ d ih =>
    intro h
    rw [utD, utD, ih (fun x hx => h x (by omega)), alD_c (l2 := l2) d (fun x hx => (h x (by omega)).1), (h (i + d) (by omega)).2.2, (h i (by omega)).2.2, (h (i + d) (by omega)).2.1]
theorem SI_c {l l2 r r2 : Nat → Int64} {tm tm2 : Nat → Nat} {e0 k hd : Nat} {he : Nat → Int64} (h : ∀ i, i < k → l i = l2 i ∧ r i = r2 i ∧ tm i = tm2 i) (hs : SI l r tm e0 k hd he) : SI l2 r2 tm2 e0 k hd he := by
  obtain ⟨h1, h2, h3⟩ := hs
  refine ⟨h1, fun j a b => ?_, fun j a => ?_⟩
  · rw [h2 j a b]
    exact hvD_c _ (fun i hi => ⟨(h i (by omega)).1, (h i (by omega)).2.1⟩)
  · obtain ⟨b1, b2, b3⟩ := h3 j a
    rw [(h j (by omega)).2.2, (h (k - 1) (by omega)).2.2] at b3
    exact ⟨b1, b2, b3⟩
theorem UI_c {l l2 r r2 : Nat → Int64} {tm tm2 : Nat → Nat} {lw e0 re sn : Nat} {se al : Nat → Int64} (h : ∀ i, i < sn → l i = l2 i ∧ r i = r2 i ∧ tm i = tm2 i) (hs : UI l r tm lw e0 re sn se al) : UI l2 r2 tm2 lw e0 re sn se al := by
  intro i a b
  obtain ⟨h1, h2⟩ := hs i a b
  exact ⟨h1.trans (alD_c _ (fun x hx => (h x (by omega)).1)), h2.trans (utD_c _ (fun x hx => h x (by omega)))⟩
/-- a settled place of an until: m places were seen, and place b shows that no later one counts -/
def UD (l r : Nat → Int64) (tm : Nat → Nat) (lw e0 np sn i : Nat) (v : Int64) : Prop := ∃ m b, b ≤ m ∧ m ≤ sn ∧ b < np ∧ i ≤ b ∧ tm i + e0 ≤ tm b ∧ v = utD l r tm lw e0 i (m - i)
/-- node k holds what it should for the places below its ready -/
def CV (np : Nat) (tm : Nat → Nat) (ph : Nat → Nat → Nat) (q : Nat → Nat → Nat) (ss : Nat → Nat → Nat → Int64) (k : Nat) : Prop :=
  (q 0 k = 0 → ∀ i, i < q 8 k → ss 0 k i = atS (ph (q 1 k) i) (q 2 k) (q 3 k) 16) ∧
  (q 0 k = 1 ∨ q 0 k = 2 → ∀ i, i < q 8 k → ss 0 k i = cpS (decide (q 0 k = 2)) (q 2 k) (q 3 k) 16) ∧
  (q 0 k = 3 → ∀ i, i < q 8 k → ss 0 k i = ss 0 (q 2 k) i ^^^ (-1)) ∧
  (q 0 k = 4 ∨ q 0 k = 5 → ∀ i, i < q 8 k → ss 0 k i = joF (decide (q 0 k = 4)) (ss 0 (q 2 k)) (ss 0 (q 3 k)) i) ∧
  (q 0 k = 6 → ∀ i, i < q 8 k → ss 0 k i = anV (q 1 k) (ss 0 (q 2 k) i)) ∧
  (q 0 k = 7 → ∀ i, i < q 8 k → ss 0 k i = pvF (ss 0 (q 2 k)) tm (q 4 k) (q 5 k) i) ∧
  (q 0 k = 8 → (∀ i, i < q 8 k → ss 0 k i = siT (ss 0 (q 2 k)) (ss 0 (q 3 k)) tm (q 4 k) (q 5 k) i (i + 1)) ∧ SI (ss 0 (q 2 k)) (ss 0 (q 3 k)) tm (q 5 k) (q 8 k) (q 9 k) (ss 1 k)) ∧
  (q 0 k = 9 → (∀ i, i < q 8 k → UD (ss 0 (q 2 k)) (ss 0 (q 3 k)) tm (q 4 k) (q 5 k) np (q 9 k) i (ss 0 k i)) ∧ UI (ss 0 (q 2 k)) (ss 0 (q 3 k)) tm (q 4 k) (q 5 k) (q 8 k) (q 9 k) (ss 0 k) (ss 1 k))
/-- how far node k has come -/
def RV (np : Nat) (tm : Nat → Nat) (q : Nat → Nat → Nat) (k : Nat) : Prop :=
  q 8 k ≤ np ∧ (q 0 k ≤ 2 → q 8 k = np) ∧ (q 0 k = 3 ∨ q 0 k = 6 → q 8 k = q 8 (q 2 k)) ∧
  (q 0 k = 4 ∨ q 0 k = 5 ∨ q 0 k = 8 → q 8 k = min (q 8 (q 2 k)) (q 8 (q 3 k))) ∧
  (q 0 k = 7 → q 8 k = min np (q 8 (q 2 k) + 1)) ∧
  (q 0 k = 9 → q 9 k = min (q 8 (q 2 k)) (q 8 (q 3 k)) ∧ q 8 k ≤ min (q 9 k) (np - 1) ∧ (∀ j, j < q 8 k → tm j + q 5 k ≤ tm (min (q 9 k) (np - 1))) ∧ (q 8 k = min (q 9 k) (np - 1) ∨ tm (min (q 9 k) (np - 1)) < tm (q 8 k) + q 5 k))
/-- the old node k among its children that have gone on -/
theorem CV_mv {np np2 : Nat} {tm tm2 : Nat → Nat} {ph ph2 : Nat → Nat → Nat} {qo q : Nat → Nat → Nat} {so ss : Nat → Nat → Nat → Int64} {k : Nat} (hR : RV np tm qo k) (hC : CV np tm ph qo so k) (hr : 3 ≤ qo 0 k → qo 8 (qo 2 k) ≤ np ∧ qo 8 (qo 3 k) ≤ np) (hnp : np ≤ np2) (htm : ∀ i, i < np → tm i = tm2 i) (hph : ∀ r i, i < np → ph r i = ph2 r i) (hq : ∀ c, q c k = qo c k) (hs : ∀ c, ss c k = so c k)
    (h2 : 3 ≤ qo 0 k → ∀ i, i < qo 8 (qo 2 k) → ss 0 (qo 2 k) i = so 0 (qo 2 k) i) (h3 : 3 ≤ qo 0 k → ∀ i, i < qo 8 (qo 3 k) → ss 0 (qo 3 k) i = so 0 (qo 3 k) i) : CV np2 tm2 ph2 q ss k := by
  obtain ⟨r0, r1, r2, r3, r4, r5⟩ := hR
  obtain ⟨c0, c1, c2, c3, c4, c5, c6, c7⟩ := hC
  unfold CV
  rw [hq 0, hq 1, hq 2, hq 3, hq 4, hq 5, hq 8, hq 9, hs 0, hs 1]
  refine ⟨fun h i hi => ?_, fun h i hi => ?_, fun h i hi => ?_, fun h i hi => ?_, fun h i hi => ?_, fun h i hi => ?_, fun h => ⟨fun i hi => ?_, ?_⟩, fun h => ⟨fun i hi => ?_, ?_⟩⟩
  · rw [c0 h i hi, hph _ _ (by omega)]
  · exact c1 h i hi
  · rw [c2 h i hi, h2 (by omega) i (by rw [r2 (Or.inl h)] at hi; exact hi)]
  · have := r3 (by omega)
    rw [c3 h i hi]; unfold joF
    rw [h2 (by omega) i (by omega), h3 (by omega) i (by omega)]
  · rw [c4 h i hi, h2 (by omega) i (by rw [r2 (Or.inr h)] at hi; exact hi)]
  · have := r4 h
    rw [c5 h i hi]; unfold pvF
    rw [htm i (by omega), htm (i - 1) (by omega)]
    by_cases h0 : i = 0
    · subst h0; rfl
    · rw [h2 (by omega) (i - 1) (by omega)]
  · have := r3 (Or.inr (Or.inr h))
    rw [(c6 h).1 i hi]
    exact siT_c (fun x hx => ⟨(h2 (by omega) x (by omega)).symm, (h3 (by omega) x (by omega)).symm, htm x (by omega)⟩) _ (Nat.le_refl _)
  · have := r3 (Or.inr (Or.inr h))
    exact SI_c (fun x hx => ⟨(h2 (by omega) x (by omega)).symm, (h3 (by omega) x (by omega)).symm, htm x (by omega)⟩) (c6 h).2
  · obtain ⟨m, b, e1, e2, e3, e4, e5, e6⟩ := (c7 h).1 i hi
    have := (r5 h).1
    have := hr (by omega)
    refine ⟨m, b, e1, e2, by omega, e4, by rw [← htm i (by omega), ← htm b (by omega)]; exact e5, ?_⟩
    rw [e6]
    exact utD_c _ (fun x hx => ⟨(h2 (by omega) x (by omega)).symm, (h3 (by omega) x (by omega)).symm, htm x (by omega)⟩)
  · have := (r5 h).1
    have := hr (by omega)
    exact UI_c (fun x hx => ⟨(h2 (by omega) x (by omega)).symm, (h3 (by omega) x (by omega)).symm, htm x (by omega)⟩) (c7 h).2
def setq (q : Nat → Nat → Nat) (k r h : Nat) : Nat → Nat → Nat := fun c => if c = 8 then va_up (q 8) k r else if c = 9 then va_up (q 9) k h else q c
def sets (ss : Nat → Nat → Nat → Int64) (k : Nat) (s x : Nat → Int64) : Nat → Nat → Nat → Int64 := fun c => if c = 0 then va_up (ss 0) k s else if c = 1 then va_up (ss 1) k x else ss c
theorem setq_o {q : Nat → Nat → Nat} {k r h c j : Nat} (hj : j ≠ k) : setq q k r h c j = q c j := by
  unfold setq
  by_cases h8 : c = 8
  · rw [if_pos h8, va_up_ne _ _ hj, h8]
  · rw [if_neg h8]
    by_cases h9 : c = 9
    · rw [if_pos h9, va_up_ne _ _ hj, h9]
    · rw [if_neg h9]
theorem setq_c {q : Nat → Nat → Nat} {k r h c j : Nat} (h8 : c ≠ 8) (h9 : c ≠ 9) : setq q k r h c j = q c j := by
  unfold setq; rw [if_neg h8, if_neg h9]
theorem setq_8 {q : Nat → Nat → Nat} {k r h : Nat} : setq q k r h 8 k = r := by unfold setq; rw [if_pos rfl, va_up_self]
theorem setq_9 {q : Nat → Nat → Nat} {k r h : Nat} : setq q k r h 9 k = h := by unfold setq; rw [if_neg (by decide), if_pos rfl, va_up_self]
theorem sets_o {ss : Nat → Nat → Nat → Int64} {k c j : Nat} {s x : Nat → Int64} (hj : j ≠ k) : sets ss k s x c j = ss c j := by
  unfold sets
  by_cases h8 : c = 0
  · rw [if_pos h8, va_up_ne _ _ hj, h8]
  · rw [if_neg h8]
    by_cases h9 : c = 1
    · rw [if_pos h9, va_up_ne _ _ hj, h9]
    · rw [if_neg h9]
theorem sets_0 {ss : Nat → Nat → Nat → Int64} {k : Nat} {s x : Nat → Int64} : sets ss k s x 0 k = s := by unfold sets; rw [if_pos rfl, va_up_self]
theorem sets_1 {ss : Nat → Nat → Nat → Int64} {k : Nat} {s x : Nat → Int64} : sets ss k s x 1 k = x := by unfold sets; rw [if_neg (by decide), if_pos rfl, va_up_self]
/-- node k may go on: what stands before its advance -/
def BV (np : Nat) (tm : Nat → Nat) (ph : Nat → Nat → Nat) (q : Nat → Nat → Nat) (ss : Nat → Nat → Nat → Int64) (k : Nat) : Prop :=
  CV np tm ph q ss k ∧ (3 ≤ q 0 k → q 2 k < k ∧ q 3 k < k ∧ q 8 (q 2 k) ≤ np ∧ q 8 (q 3 k) ≤ np) ∧ (q 0 k ≤ 2 → q 8 k + 1 = np) ∧ (q 0 k = 3 ∨ q 0 k = 6 → q 8 k ≤ q 8 (q 2 k)) ∧ (q 0 k = 4 ∨ q 0 k = 5 ∨ q 0 k = 8 → q 8 k ≤ min (q 8 (q 2 k)) (q 8 (q 3 k))) ∧ (q 0 k = 7 → q 8 k ≤ min np (q 8 (q 2 k) + 1)) ∧ (q 0 k = 9 → q 8 k ≤ q 9 k ∧ q 8 k ≤ np - 1 ∧ 0 < np ∧ q 9 k ≤ min (q 8 (q 2 k)) (q 8 (q 3 k)) ∧ ∀ j, j < q 8 k → tm j + q 5 k ≤ tm (min (min (q 8 (q 2 k)) (q 8 (q 3 k))) (np - 1)))
/-- what its advance gives -/
def AV (np : Nat) (tm : Nat → Nat) (ph : Nat → Nat → Nat) (q : Nat → Nat → Nat) (ss : Nat → Nat → Nat → Int64) (k r h : Nat) (s x : Nat → Int64) : Prop :=
  q 8 k ≤ r ∧ (∀ i, i < q 8 k → s i = ss 0 k i) ∧ CV np tm ph (setq q k r h) (sets ss k s x) k ∧ RV np tm (setq q k r h) k
